/-! the model: a name is spelled (2) -/
set_option maxRecDepth 100000

theorem s_spells {w : Wd} {S : Sh} {J : Jm} {Q : Out → Sh → Jm → Prop} (hL : Lay S) (n : Nat) (known : Int) (hn : n < 7) (hX : MTxt J) (hN : NamAt J n) (K : ∀ J', PSp J n known J' → Q (.inl none) S J') : V w 2 mX5_spells 0 (ent mX5_spells [vR 313, vI (n : Int), vI known]) [] S J Q := by
  have ht := rbOf_ok hX known
  obtain ⟨hN1, hN2⟩ := hN
  obtain ⟨N, eN⟩ : ∃ N : Nat, J 348 n = N := ⟨(J 348 n).toNat, by omega⟩
  have eNt : (J 348 n).toNat = N := by omega
  unfold PSp spOf at K
  rw [eNt] at K
  rw [eN] at hN1
  have hW : ∀ i, i < N → 97 ≤ spW J n known i ∧ spW J n known i ≤ 122 := fun i hi => wrI_in hX ht (hN2 i (by omega))
  generalize hWe : spW J n known = W at K hW
  generalize hte : rbOf J known = t at K ht
  have hWi : ∀ i, W i = wrI J t (J 349 (8 * n + i)) := fun i => by rw [← hWe]; unfold spW; rw [hte]
  -- the second loop
  have loop2 : ∀ (m i : Nat) (J1 : Jm), i + m = N → spF J J1 n → (∀ j, j < N → J1 355 j = W j) → J1 354 n = ((spA W (drI J t) N i).length : Nat) → (∀ j, j < (spA W (drI J t) N i).length → J1 353 (8 * n + j) = (spA W (drI J t) N i).getD j 0) → V w 2 mX5_spells 60 [some (vR 313), some (vI (n : Int)), none, some (vI t), some (vI (i : Int)), none, none, none] [] S J1 Q := by
    intro m
    induction m with
    | zero =>
      intro i J1 hi f1 hw1 hc1 hc2
      obtain rfl : i = N := by omega
      have e1 : J1 348 n = (i : Int) := by rw [f1 _ _ (by omega) (by omega) (by decide)]; exact eN
      exact gX5_spells_60 (J := J1) hL n t i ⟨by omega, br_y (by omega) (K J1 ⟨f1, hc1, hc2⟩)⟩
    | succ m ih =>
      intro i J1 hi f1 hw1 hc1 hc2
      have e1 : J1 348 n = (N : Int) := by rw [f1 _ _ (by omega) (by omega) (by decide)]; exact eN
      have ewi : J1 355 i = W i := hw1 i (by omega)
      have hWin := hW i (by omega)
      have hm := f1.kp.mp
      have hlen := spA_len W (drI J t) N i
      have eA : spA W (drI J t) N (i + 1) = spA W (drI J t) N i ++ spC W (drI J t) N i := rfl
      -- no cell
      have none1 : spC W (drI J t) N i = [] → V w 2 mX5_spells 60 [some (vR 313), some (vI (n : Int)), none, some (vI t), some (vI ((i + 1 : Nat) : Int)), none, none, none] [] S J1 Q := by
        intro h
        rw [h, List.append_nil] at eA
        refine ih (i + 1) J1 (by omega) f1 hw1 (by rw [eA]; exact hc1) (by rw [eA]; exact hc2)
      -- a cell
      have one1 : ∀ z : Int, spC W (drI J t) N i = [z] → V w 2 mX5_spells 60 [some (vR 313), some (vI (n : Int)), none, some (vI t), some (vI ((i + 1 : Nat) : Int)), none, none, none] [] S (up (up J1 353 (8 * n + (J1 354 n).toNat) z) 354 n (J1 354 n + 1)) Q := by
        intro z h
        rw [h] at eA
        rw [hc1, Int.toNat_natCast]
        refine ih (i + 1) _ (by omega) (fun b k h1 h2 h3 => ?_) (fun j hj => ?_) ?_ (fun j hj => ?_)
        · rw [up_ne h2, up_ne (fun e => h1 ⟨e.1, by omega, by omega⟩)]; exact f1 b k h1 h2 h3
        · rw [up_na (by decide), up_na (by decide)]; exact hw1 j hj
        · rw [up_self, eA, len_app]; push_cast; rfl
        · rw [eA, len_app] at hj
          rw [up_na (by decide), eA]
          by_cases hjl : j = (spA W (drI J t) N i).length
          · rw [hjl, up_self, getD_app_r]
          · rw [up_nk (by omega), getD_app_l (by omega)]; exact hc2 j (by omega)
      -- behind the search of a vowel
      have bh : ∀ (bare : Int) (d6 : Int), (bare = 0 ∨ bare = 1) → (bare = 1 ↔ (i + 1 = N ∨ vwI (W (i + 1)) = -1)) → vwI (W i) = -1 → V w 1 mX5_vowelFor 0 (ent mX5_vowelFor [vR 313, vI (i : Int), vI ((N : Nat) : Int)]) [] S J1 (CallQ w 2 mX5_spells 166 [some (vR 313), some (vI (n : Int)), none, some (vI t), some (vI (i : Int)), some (vI d6), some (vI bare), none] [] Q) := by
        intro bare d6 hb01 hbare hvc
        refine s_vowelFor hL i N (by omega) (by omega) ?_
        rw [vfI_cong (by omega) (fun j hj => hw1 j hj)]
        refine v_forget (fg_some (fg_some (fg_none (fg_some (fg_some (fg_none (fg_some (fg_none fg_nil)))))))) (gX5_spells_169 (J := J1) hL n t i bare (vfI W N i) ?_)
        have hvi := vfI_in W N i
        have hC : spC W (drI J t) N i = if vfI W N i = -1 then [] else if (i + 1 = N ∨ vwI (W (i + 1)) = -1) ∧ drI J t (W i) = true then [] else [clC (W i) (vfI W N i)] := by
          unfold spC
          rw [if_pos hvc]
        rw [ewi]
        have add : spC W (drI J t) N i = [clC (W i) (vfI W N i)] → V w 0 mX5_addCell 0 (ent mX5_addCell [vR 313, vI (n : Int), vI (W i), vI (vfI W N i)]) [] S J1 (CallQ w 2 mX5_spells 208 [some (vR 313), some (vI (n : Int)), none, some (vI t), some (vI (i : Int)), none, some (vI bare), some (vI (vfI W N i))] [] Q) := by
          intro h9
          refine s_addCell hL n _ _ hn (by omega) (Or.inr hWin) hvi ?_
          refine v_forget (fg_some (fg_some (fg_none (fg_some (fg_some (fg_none (fg_none (fg_none fg_nil)))))))) (gX5_spells_211 hL n t i ⟨by omega, one1 _ h9⟩)
        refine br_i (fun h => ⟨by omega, none1 (by rw [hC, if_pos h])⟩) (fun h => ?_)
        rw [if_neg h] at hC
        refine br_i (fun h0 => ⟨by omega, add ?_⟩) (fun h0 => ?_)
        · rw [hC, if_neg (fun q => by have := hbare.mpr q.1; omega)]
        · have hX1 : MTxt J1 := hX.mp hm
          have ex : J1 313 8 = J 313 8 := hm _ _ rfl
          refine ⟨by omega, hX1, by rw [ex]; exact ht, ?_⟩
          rw [drI_mp hX hm ht]
          refine br_i (fun h1 => ⟨by omega, none1 ?_⟩) (fun h1 => add ?_)
          · rw [hC, if_pos ⟨hbare.mp (by omega), h1⟩]
          · rw [hC, if_neg (fun q => h1 q.2)]
      refine gX5_spells_60 (J := J1) hL n t i ⟨by omega, br_n (by omega) ⟨by omega, ?_⟩⟩
      rw [ewi, e1]
      refine br_i (fun h => ?_) (fun h => ?_)
      · refine ⟨by omega, br_i (fun h2 => bh 1 _ (Or.inr rfl) ⟨fun _ => Or.inl (by omega), fun _ => rfl⟩ h) (fun h2 => ⟨by omega, ?_⟩)⟩
        rw [hw1 (i + 1) (by omega)]
        refine br_i (fun h3 => bh 1 _ (Or.inr rfl) ⟨fun _ => Or.inr h3, fun _ => rfl⟩ h) (fun h3 => bh 0 _ (Or.inl rfl) ⟨fun q => absurd q (by decide), fun q => ?_⟩ h)
        rcases q with q | q
        · omega
        · exact absurd q h3
      · have hvi := vwI_in (W i)
        have hC : spC W (drI J t) N i = if i = 0 ∨ vwI (W (i - 1)) ≠ -1 then [clC 0 (vwI (W i))] else [] := by
          unfold spC
          rw [if_neg h]
        have add : spC W (drI J t) N i = [clC 0 (vwI (W i))] → V w 0 mX5_addCell 0 (ent mX5_addCell [vR 313, vI (n : Int), vI 0, vI (vwI (W i))]) [] S J1 (CallQ w 2 mX5_spells 115 [some (vR 313), some (vI (n : Int)), none, some (vI t), some (vI (i : Int)), some (vI (vwI (W i))), none, none] [] Q) := by
          intro h9
          refine s_addCell hL n _ _ hn (by omega) (Or.inl rfl) hvi ?_
          refine v_forget (fg_some (fg_some (fg_none (fg_some (fg_some (fg_none (fg_none (fg_none fg_nil)))))))) (gX5_spells_118 hL n t i ⟨by omega, one1 _ h9⟩)
        refine br_i (fun h0 => add (by rw [hC, if_pos (Or.inl (by omega))])) (fun h0 => ?_)
        rw [show ((i : Int) - 1).toNat = i - 1 by omega, hw1 (i - 1) (by omega)]
        (repeat' (first | (refine And.intro ?_ ?_; omega)))
        refine br_i (fun h1 => ⟨by omega, none1 ?_⟩) (fun h1 => add ?_)
        · rw [hC, if_neg (fun q => by rcases q with q | q; omega; exact q h1)]
        · rw [hC, if_pos (Or.inr h1)]
  -- the first loop
  refine gX5_spells_0 hL n known ⟨hX.1, by omega, ?_⟩
  rw [hte]
  show V w 2 mX5_spells 16 [some (vR 313), some (vI (n : Int)), none, some (vI t), some (vI ((0 : Nat) : Int)), none, none, none] [] S _ Q
  refine up_loop (P := fun i J1 => spF J J1 n ∧ (∀ j, j < i → J1 355 j = W j) ∧ J1 354 n = 0) N (fun i J1 => V w 2 mX5_spells 16 [some (vR 313), some (vI (n : Int)), none, some (vI t), some (vI (i : Int)), none, none, none] [] S J1 Q) ?_ ?_ 0 _ (by omega) ⟨fun b k h1 h2 h3 => up_ne h2, fun j hj => absurd hj (by omega), up_self⟩
  · intro i J1 hi ⟨f1, w1, c1⟩ ih
    have e1 : J1 348 n = (N : Int) := by rw [f1 _ _ (by omega) (by omega) (by decide)]; exact eN
    have e2 : J1 349 (8 * n + i) = J 349 (8 * n + i) := f1 _ _ (by omega) (by omega) (by decide)
    have hm := f1.kp.mp
    have ex : J1 313 8 = J 313 8 := hm _ _ rfl
    refine gX5_spells_16 (J := J1) hL n t i ⟨by omega, br_n (by omega) ?_⟩
    rw [e2, wrI_mp hX hm ht, ← hWi]
    refine ⟨by omega, by omega, by omega, hX.mp hm, by rw [ex]; exact ht, by omega, by omega, ih _ ⟨fun b k h1 h2 h3 => ?_, fun j hj => ?_, ?_⟩⟩
    · rw [up_na h3]; exact f1 b k h1 h2 h3
    · by_cases hji : j = i
      · rw [hji, up_self]
      · rw [up_nk hji]; exact w1 j (by omega)
    · rw [up_na (by decide)]; exact c1
  · intro J1 ⟨f1, w1, c1⟩
    have e1 : J1 348 n = (N : Int) := by rw [f1 _ _ (by omega) (by omega) (by decide)]; exact eN
    refine gX5_spells_16 (J := J1) hL n t N ⟨by omega, br_y (by omega) ?_⟩
    exact loop2 N 0 J1 (by omega) f1 w1 c1 (fun j hj => absurd hj (Nat.not_lt_zero _))

theorem s_spellsI {w : Wd} {S : Sh} {J : Jm} {Q : Out → Sh → Jm → Prop} (hL : Lay S) (n known : Int) (hn : 0 ≤ n ∧ n < 7) (hX : MTxt J) (hN : NamAt J n.toNat) (K : ∀ J', PSp J n.toNat known J' → Q (.inl none) S J') : V w 2 mX5_spells 0 (ent mX5_spells [vR 313, vI n, vI known]) [] S J Q := by
  obtain ⟨m, rfl⟩ : ∃ m : Nat, n = m := ⟨n.toNat, by omega⟩
  exact s_spells hL m known (by omega) hX hN K
theorem gX5_spelled_0 {w : Wd} {S : Sh} {J : Jm} {Q : Out → Sh → Jm → Prop} (hL : Lay S) (n : Int) (known : Int)
    (K : (-2147483648 ≤ (J 313 55) - 1 ∧ (J 313 55) - 1 ≤ 2147483647) ∧ Br (0 ≤ n ∧ n ≤ ((J 313 55) - 1)) (Br (0 ≤ known ∧ known ≤ (J 313 1)) ((0 ≤ n ∧ n < 7) ∧ (MTxt (up J 313 0 0)) ∧ (NamAt (up J 313 0 0) n.toNat) ∧ (∀ (J1 : Jm), PSp (up J 313 0 0) n.toNat known J1 → (n < 7) ∧ Q (.inl (some (vI (J1 354 n.toNat)))) S J1)) (Q (.inl (some (vI (-1)))) S (up J 313 0 0))) (Q (.inl (some (vI (-1)))) S (up J 313 0 0))) :
    V w 3 mX5_spelled 0 (ent mX5_spelled [vR 313, vI n, vI known]) [] S J Q := by
  show V w 3 mX5_spelled 0 [some (vR 313), some (vI n), some (vI known)] [] S J Q
  refine v_aload_n dX5_spelled_0 rfl ?_
  refine v_iconst dX5_spelled_1 (in_lit (by decide)) ?_
  refine v_putI dX5_spelled_2 frX5_1_5 (fun _ _ _ h => by cases h; exact Or.inl rfl) rfl rfl zfit_int (L_313 hL).1 ?_
  show V w 3 mX5_spelled 5 [some (vR 313), some (vI n), some (vI known)] [] S (up J 313 0 0) Q
  refine v_iload_n dX5_spelled_5 rfl ?_
  refine v_iconst dX5_spelled_6 (in_lit (by decide)) ?_
  refine v_aload_n dX5_spelled_7 rfl ?_
  refine v_getI dX5_spelled_8 frX5_383_5 rfl rfl (L_313 hL).1 ?_
  show V w 3 mX5_spelled 11 [some (vR 313), some (vI n), some (vI known)] [vI (J 313 55), vI 0, vI n] S (up J 313 0 0) Q
  refine v_iconst dX5_spelled_11 (in_lit (by decide)) ?_
  obtain ⟨o1, K⟩ := K
  refine v_isub dX5_spelled_12 o1 ?_
  refine v_callS (d' := 0) (rest := []) [vI n, vI 0, vI ((J 313 55) - 1)] dX5_spelled_13 srX5_169 rfl (one_I (one_I (one_I one_nil))) (Nat.le_of_ble_eq_true rfl) (Nat.le_of_ble_eq_true rfl) (Nat.le_of_ble_eq_true rfl) ?_
  obtain ⟨K1, K2⟩ := K
  refine sX5_within hL n 0 ((J 313 55) - 1)  (fun c1 => ?_) (fun c1 => ?_)
  · have K := K1 c1
    show V w 3 mX5_spelled 16 [some (vR 313), some (vI n), some (vI known)] [vI 1] S (up J 313 0 0) Q
    refine v_if_eq 27 dX5_spelled_16 (by decide) (fun cQ => absurd cQ (by decide)) (fun _ => ?_)
    refine v_aload_n dX5_spelled_19 rfl ?_
    refine v_iload_n dX5_spelled_20 rfl ?_
    refine v_callV (d' := 0) (rest := []) [vI known] dX5_spelled_21 vrX5_298_5 (L_313 hL).1 rfl rfl (one_I one_nil) (Nat.le_of_ble_eq_true rfl) (Nat.le_of_ble_eq_true rfl) (Nat.le_of_ble_eq_true rfl) ?_
    obtain ⟨K1, K2⟩ := K
    refine sX5_isKnown hL known  (fun c2 => ?_) (fun c2 => ?_)
    · have K := K1 c2
      show V w 3 mX5_spelled 24 [some (vR 313), some (vI n), some (vI known)] [vI 1] S (up J 313 0 0) Q
      refine v_if_ne 29 dX5_spelled_24 (by decide) (fun _ => ?_) (fun cQ => absurd cQ (by decide))
      refine v_aload_n dX5_spelled_29 rfl ?_
      refine v_iload_n dX5_spelled_30 rfl ?_
      refine v_iload_n dX5_spelled_31 rfl ?_
      refine v_callV (d' := 2) (rest := []) [vI n, vI known] dX5_spelled_32 vrX5_401_5 (L_313 hL).1 rfl rfl (one_I (one_I one_nil)) (Nat.le_of_ble_eq_true rfl) (Nat.le_of_ble_eq_true rfl) (Nat.le_of_ble_eq_true rfl) ?_
      obtain ⟨o2, K⟩ := K
      obtain ⟨o3, K⟩ := K
      obtain ⟨o4, K⟩ := K
      refine s_spellsI hL n known o2 o3 o4 (fun J1 hp => ?_)
      have K := K J1 hp
      show V w 3 mX5_spelled 35 [some (vR 313), some (vI n), some (vI known)] [] S J1 Q
      refine v_aload_n dX5_spelled_35 rfl ?_
      refine v_getR dX5_spelled_36 frX5_139_5 rfl (L_313 hL).1 (LR_313_62 hL) (Or.inl rfl) ?_
      refine v_iload_n dX5_spelled_39 rfl ?_
      obtain ⟨o5, K⟩ := K
      refine ld_354 dX5_spelled_40 hL c1.1 o5 ?_
      exact v_iret dX5_spelled_41 rfl rfl K
    · have K := K2 c2
      show V w 3 mX5_spelled 24 [some (vR 313), some (vI n), some (vI known)] [vI 0] S (up J 313 0 0) Q
      refine v_if_ne 29 dX5_spelled_24 (by decide) (fun cQ => absurd cQ (by decide)) (fun _ => ?_)
      refine v_iconst dX5_spelled_27 (in_lit (by decide)) ?_
      exact v_iret dX5_spelled_28 rfl rfl K
  · have K := K2 c1
    show V w 3 mX5_spelled 16 [some (vR 313), some (vI n), some (vI known)] [vI 0] S (up J 313 0 0) Q
    refine v_if_eq 27 dX5_spelled_16 (by decide) (fun _ => ?_) (fun cQ => absurd cQ (by decide))
    refine v_iconst dX5_spelled_27 (in_lit (by decide)) ?_
    exact v_iret dX5_spelled_28 rfl rfl K
theorem gX5_cell_0 {w : Wd} {S : Sh} {J : Jm} {Q : Out → Sh → Jm → Prop} (hL : Lay S) (n : Int) (i : Int) (known : Int)
    (K : (-2147483648 ≤ (J 313 55) - 1 ∧ (J 313 55) - 1 ≤ 2147483647) ∧ Br (0 ≤ n ∧ n ≤ ((J 313 55) - 1)) (Br (0 ≤ known ∧ known ≤ (J 313 1)) ((0 ≤ n ∧ n < 7) ∧ (MTxt (up J 313 0 0)) ∧ (NamAt (up J 313 0 0) n.toNat) ∧ (∀ (J1 : Jm), PSp (up J 313 0 0) n.toNat known J1 → (n < 7) ∧ (-2147483648 ≤ (J1 354 n.toNat) - 1 ∧ (J1 354 n.toNat) - 1 ≤ 2147483647) ∧ Br (0 ≤ i ∧ i ≤ ((J1 354 n.toNat) - 1)) ((-2147483648 ≤ 8 * n ∧ 8 * n ≤ 2147483647) ∧ (-2147483648 ≤ (8 * n) + i ∧ (8 * n) + i ≤ 2147483647) ∧ (0 ≤ (8 * n) + i) ∧ ((8 * n) + i < 56) ∧ Q (.inl (some (vI (J1 353 ((8 * n) + i).toNat)))) S J1) (Q (.inl (some (vI (-1)))) S J1))) (Q (.inl (some (vI (-1)))) S (up J 313 0 0))) (Q (.inl (some (vI (-1)))) S (up J 313 0 0))) :
    V w 3 mX5_cell 0 (ent mX5_cell [vR 313, vI n, vI i, vI known]) [] S J Q := by
  show V w 3 mX5_cell 0 [some (vR 313), some (vI n), some (vI i), some (vI known)] [] S J Q
  refine v_aload_n dX5_cell_0 rfl ?_
  refine v_iconst dX5_cell_1 (in_lit (by decide)) ?_
  refine v_putI dX5_cell_2 frX5_1_5 (fun _ _ _ h => by cases h; exact Or.inl rfl) rfl rfl zfit_int (L_313 hL).1 ?_
  show V w 3 mX5_cell 5 [some (vR 313), some (vI n), some (vI i), some (vI known)] [] S (up J 313 0 0) Q
  refine v_iload_n dX5_cell_5 rfl ?_
  refine v_iconst dX5_cell_6 (in_lit (by decide)) ?_
  refine v_aload_n dX5_cell_7 rfl ?_
  refine v_getI dX5_cell_8 frX5_383_5 rfl rfl (L_313 hL).1 ?_
  show V w 3 mX5_cell 11 [some (vR 313), some (vI n), some (vI i), some (vI known)] [vI (J 313 55), vI 0, vI n] S (up J 313 0 0) Q
  refine v_iconst dX5_cell_11 (in_lit (by decide)) ?_
  obtain ⟨o1, K⟩ := K
  refine v_isub dX5_cell_12 o1 ?_
  refine v_callS (d' := 0) (rest := []) [vI n, vI 0, vI ((J 313 55) - 1)] dX5_cell_13 srX5_169 rfl (one_I (one_I (one_I one_nil))) (Nat.le_of_ble_eq_true rfl) (Nat.le_of_ble_eq_true rfl) (Nat.le_of_ble_eq_true rfl) ?_
  obtain ⟨K1, K2⟩ := K
  refine sX5_within hL n 0 ((J 313 55) - 1)  (fun c1 => ?_) (fun c1 => ?_)
  · have K := K1 c1
    show V w 3 mX5_cell 16 [some (vR 313), some (vI n), some (vI i), some (vI known)] [vI 1] S (up J 313 0 0) Q
    refine v_if_eq 27 dX5_cell_16 (by decide) (fun cQ => absurd cQ (by decide)) (fun _ => ?_)
    refine v_aload_n dX5_cell_19 rfl ?_
    refine v_iload_n dX5_cell_20 rfl ?_
    refine v_callV (d' := 0) (rest := []) [vI known] dX5_cell_21 vrX5_298_5 (L_313 hL).1 rfl rfl (one_I one_nil) (Nat.le_of_ble_eq_true rfl) (Nat.le_of_ble_eq_true rfl) (Nat.le_of_ble_eq_true rfl) ?_
    obtain ⟨K1, K2⟩ := K
    refine sX5_isKnown hL known  (fun c2 => ?_) (fun c2 => ?_)
    · have K := K1 c2
      show V w 3 mX5_cell 24 [some (vR 313), some (vI n), some (vI i), some (vI known)] [vI 1] S (up J 313 0 0) Q
      refine v_if_ne 29 dX5_cell_24 (by decide) (fun _ => ?_) (fun cQ => absurd cQ (by decide))
      refine v_aload_n dX5_cell_29 rfl ?_
      refine v_iload_n dX5_cell_30 rfl ?_
      refine v_iload_n dX5_cell_31 rfl ?_
      refine v_callV (d' := 2) (rest := []) [vI n, vI known] dX5_cell_32 vrX5_401_5 (L_313 hL).1 rfl rfl (one_I (one_I one_nil)) (Nat.le_of_ble_eq_true rfl) (Nat.le_of_ble_eq_true rfl) (Nat.le_of_ble_eq_true rfl) ?_
      obtain ⟨o2, K⟩ := K
      obtain ⟨o3, K⟩ := K
      obtain ⟨o4, K⟩ := K
      refine s_spellsI hL n known o2 o3 o4 (fun J1 hp => ?_)
      have K := K J1 hp
      show V w 3 mX5_cell 35 [some (vR 313), some (vI n), some (vI i), some (vI known)] [] S J1 Q
      refine v_iload_n dX5_cell_35 rfl ?_
      refine v_iconst dX5_cell_36 (in_lit (by decide)) ?_
      refine v_aload_n dX5_cell_37 rfl ?_
      refine v_getR dX5_cell_38 frX5_139_5 rfl (L_313 hL).1 (LR_313_62 hL) (Or.inl rfl) ?_
      refine v_iload_n dX5_cell_41 rfl ?_
      obtain ⟨o5, K⟩ := K
      refine ld_354 dX5_cell_42 hL c1.1 o5 ?_
      refine v_iconst dX5_cell_43 (in_lit (by decide)) ?_
      obtain ⟨o6, K⟩ := K
      refine v_isub dX5_cell_44 o6 ?_
      refine v_callS (d' := 0) (rest := []) [vI i, vI 0, vI ((J1 354 n.toNat) - 1)] dX5_cell_45 srX5_169 rfl (one_I (one_I (one_I one_nil))) (Nat.le_of_ble_eq_true rfl) (Nat.le_of_ble_eq_true rfl) (Nat.le_of_ble_eq_true rfl) ?_
      obtain ⟨K1, K2⟩ := K
      refine sX5_within hL i 0 ((J1 354 n.toNat) - 1)  (fun c3 => ?_) (fun c3 => ?_)
      · have K := K1 c3
        show V w 3 mX5_cell 48 [some (vR 313), some (vI n), some (vI i), some (vI known)] [vI 1] S J1 Q
        refine v_if_eq 65 dX5_cell_48 (by decide) (fun cQ => absurd cQ (by decide)) (fun _ => ?_)
        refine v_aload_n dX5_cell_51 rfl ?_
        refine v_getR dX5_cell_52 frX5_136_5 rfl (L_313 hL).1 (LR_313_61 hL) (Or.inl rfl) ?_
        refine v_bipush dX5_cell_55 (by decide) (in_lit (by decide)) ?_
        refine v_iload_n dX5_cell_57 rfl ?_
        obtain ⟨o7, K⟩ := K
        refine v_imul dX5_cell_58 o7 ?_
        refine v_iload_n dX5_cell_59 rfl ?_
        obtain ⟨o8, K⟩ := K
        refine v_iadd dX5_cell_60 o8 ?_
        obtain ⟨o9, K⟩ := K
        obtain ⟨o10, K⟩ := K
        refine ld_353 dX5_cell_61 hL o9 o10 ?_
        refine v_goto 66 dX5_cell_62 (by decide) ?_
        exact v_iret dX5_cell_66 rfl rfl K
      · have K := K2 c3
        show V w 3 mX5_cell 48 [some (vR 313), some (vI n), some (vI i), some (vI known)] [vI 0] S J1 Q
        refine v_if_eq 65 dX5_cell_48 (by decide) (fun _ => ?_) (fun cQ => absurd cQ (by decide))
        refine v_iconst dX5_cell_65 (in_lit (by decide)) ?_
        exact v_iret dX5_cell_66 rfl rfl K
    · have K := K2 c2
      show V w 3 mX5_cell 24 [some (vR 313), some (vI n), some (vI i), some (vI known)] [vI 0] S (up J 313 0 0) Q
      refine v_if_ne 29 dX5_cell_24 (by decide) (fun cQ => absurd cQ (by decide)) (fun _ => ?_)
      refine v_iconst dX5_cell_27 (in_lit (by decide)) ?_
      exact v_iret dX5_cell_28 rfl rfl K
  · have K := K2 c1
    show V w 3 mX5_cell 16 [some (vR 313), some (vI n), some (vI i), some (vI known)] [vI 0] S (up J 313 0 0) Q
    refine v_if_eq 27 dX5_cell_16 (by decide) (fun _ => ?_) (fun cQ => absurd cQ (by decide))
    refine v_iconst dX5_cell_27 (in_lit (by decide)) ?_
    exact v_iret dX5_cell_28 rfl rfl K

/-- names: how many, their letters, tablets, days -/
def MNam (J : Jm) : Prop := (0 ≤ J 313 55 ∧ J 313 55 ≤ 6) ∧ ∀ n : Nat, (n : Int) < J 313 55 → NamAt J n ∧ 0 ≤ J 350 n ∧ J 350 n < J 313 2
theorem NamAt.mp {J J' : Jm} {n : Nat} (hN : NamAt J n) (hn : n < 6) (h : Mp J J') : NamAt J' n := by
  obtain ⟨h1, h2⟩ := hN
  have e1 : J' 348 n = J 348 n := h _ _ (by unfold mper scr; simp; omega)
  refine ⟨by rw [e1]; exact h1, fun i hi => ?_⟩
  rw [e1] at hi
  rw [h 349 (8 * n + i) (by unfold mper scr; simp; omega)]
  exact h2 i hi
theorem MNam.mp {J J' : Jm} (hN : MNam J) (h : Mp J J') : MNam J' := by
  obtain ⟨h1, h2⟩ := hN
  have e1 : J' 313 55 = J 313 55 := h _ _ rfl
  refine ⟨by rw [e1]; exact h1, fun n hn => ?_⟩
  rw [e1] at hn
  obtain ⟨a1, a2⟩ := h2 n hn
  rw [h 350 n (by unfold mper scr; simp; omega), h 313 2 rfl]
  exact ⟨a1.mp (by omega) h, a2⟩
theorem spOf_mp {J J' : Jm} {n : Nat} (hX : MTxt J) (hN : NamAt J n) (hn : n < 6) (h : Mp J J') (known : Int) : spOf J' n known = spOf J n known := by
  have e1 : J' 348 n = J 348 n := h _ _ (by unfold mper scr; simp; omega)
  have er : rbOf J' known = rbOf J known := rbOf_mp h known
  have ht := rbOf_ok hX known
  unfold spOf
  rw [e1, er]
  have ed : drI J' (rbOf J known) = drI J (rbOf J known) := by
    funext l
    exact drI_mp hX h ht l
  rw [ed]
  have hw : ∀ i : Nat, i < (J 348 n).toNat → spW J' n known i = spW J n known i := by
    intro i hi
    unfold spW
    rw [er, h 349 (8 * n + i) (by unfold mper scr; simp; have := hN.1; omega), wrI_mp hX h ht]
  generalize spW J' n known = W' at hw ⊢
  generalize spW J n known = W at hw ⊢
  generalize drI J (rbOf J known) = dr
  generalize (J 348 n).toNat = N at hw ⊢
  have key : ∀ i, i ≤ N → spA W' dr N i = spA W dr N i := by
    intro i
    induction i with
    | zero => intro _; rfl
    | succ i ih =>
      intro hi
      rw [spA, spA, ih (by omega)]
      congr 1
      unfold spC
      rw [hw i (by omega), vfI_cong (by omega) hw]
      by_cases h0 : i = 0
      · subst h0
        by_cases h1 : 0 + 1 = N
        · simp [h1]
        · rw [hw (0 + 1) (by omega)]; simp
      · rw [hw (i - 1) (by omega)]
        by_cases h1 : i + 1 = N
        · simp [h1]
        · rw [hw (i + 1) (by omega)]
  exact key N (Nat.le_refl _)
def rSpelled (J : Jm) (n known : Int) : Int := if (0 ≤ n ∧ n ≤ J 313 55 - 1) ∧ kno J known then ((spOf J n.toNat known).length : Nat) else -1
def rCell (J : Jm) (n i known : Int) : Int := if (0 ≤ n ∧ n ≤ J 313 55 - 1) ∧ kno J known ∧ (0 ≤ i ∧ i ≤ (((spOf J n.toNat known).length : Nat) : Int) - 1) then (spOf J n.toNat known).getD i.toNat 0 else -1
theorem m_spelled {w : Wd} {S : Sh} {J : Jm} {Q : Out → Sh → Jm → Prop} (hL : Lay S) (n known : Int) (hX : MTxt J) (hN : MNam J) (K : ∀ J', Kp J J' → Q (.inl (some (vI (rSpelled J n known)))) S J') : V w 3 mX5_spelled 0 (ent mX5_spelled [vR 313, vI n, vI known]) [] S J Q := by
  have hm := (k0 J).mp
  have hN1 := hN.1
  have no : ¬ ((0 ≤ n ∧ n ≤ J 313 55 - 1) ∧ kno J known) → Q (.inl (some (vI (-1)))) S (up J 313 0 0) := by
    intro q
    have := K _ (k0 J)
    unfold rSpelled at this
    rw [if_neg q] at this
    exact this
  refine gX5_spelled_0 hL n known ⟨by omega, br_i (fun h1 => br_i (fun h2 => ?_) (fun h2 => no (fun q => h2 q.2))) (fun h1 => no (fun q => h1 q.1))⟩
  have hNa := (hN.2 n.toNat (by omega)).1
  refine ⟨by omega, hX.mp hm, hNa.mp (by omega) hm, fun J1 hp => ?_⟩
  have := K J1 ((k0 J).trans hp.1.kp)
  unfold rSpelled at this
  rw [if_pos ⟨h1, h2⟩, ← spOf_mp hX hNa (by omega) hm, ← hp.2.1] at this
  (repeat' (first | (refine And.intro ?_ ?_; omega)))
  exact this
theorem m_cell {w : Wd} {S : Sh} {J : Jm} {Q : Out → Sh → Jm → Prop} (hL : Lay S) (n i known : Int) (hX : MTxt J) (hN : MNam J) (K : ∀ J', Kp J J' → Q (.inl (some (vI (rCell J n i known)))) S J') : V w 3 mX5_cell 0 (ent mX5_cell [vR 313, vI n, vI i, vI known]) [] S J Q := by
  have hm := (k0 J).mp
  have hN1 := hN.1
  have no : ¬ ((0 ≤ n ∧ n ≤ J 313 55 - 1) ∧ kno J known) → Q (.inl (some (vI (-1)))) S (up J 313 0 0) := by
    intro q
    have := K _ (k0 J)
    unfold rCell at this
    rw [if_neg (fun z => q ⟨z.1, z.2.1⟩)] at this
    exact this
  refine gX5_cell_0 hL n i known ⟨by omega, br_i (fun h1 => br_i (fun h2 => ?_) (fun h2 => no (fun q => h2 q.2))) (fun h1 => no (fun q => h1 q.1))⟩
  have hNa := (hN.2 n.toNat (by omega)).1
  refine ⟨by omega, hX.mp hm, hNa.mp (by omega) hm, fun J1 hp => ?_⟩
  have fin := K J1 ((k0 J).trans hp.1.kp)
  have hp2 := hp.2
  rw [spOf_mp hX hNa (by omega) hm] at hp2
  unfold rCell at fin
  have hlen : (spOf J n.toNat known).length ≤ 8 := by
    have h9 := hNa.1
    have := spA_len (spW J n.toNat known) (drI J (rbOf J known)) (J 348 n.toNat).toNat (J 348 n.toNat).toNat
    unfold spOf
    omega
  rw [hp2.1]
  (repeat' (first | (refine And.intro ?_ ?_; omega)))
  refine br_i (fun h3 => ?_) (fun h3 => ?_)
  · rw [if_pos ⟨h1, h2, h3⟩, ← hp2.2 i.toNat (by omega)] at fin
    (repeat' (first | (refine And.intro ?_ ?_; omega)))
    rw [show (8 * n + i).toNat = 8 * n.toNat + i.toNat by omega]
    exact fin
  · rw [if_neg (fun q => h3 q.2.2)] at fin
    exact fin
