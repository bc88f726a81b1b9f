/-! the model: unlike rows, pairs, links -/
set_option maxRecDepth 100000
theorem gX5_unlikeAt_0 {w : Wd} {S : Sh} {J : Jm} {Q : Out → Sh → Jm → Prop} (hL : Lay S) (a : Nat) (b : Nat)
    (K : (((a : Nat) : Int) < 192) ∧ (((b : Nat) : Int) < 192) ∧ Br (J 339 a = J 339 b) (V w 0 mX5_unlikeAt 22 [some (vR 313), some (vI ((a : Nat) : Int)), some (vI ((b : Nat) : Int)), some (vI (-1)), some (vI 0)] [] S J Q) (Q (.inl (some (vI (-1)))) S J)) :
    V w 0 mX5_unlikeAt 0 (ent mX5_unlikeAt [vR 313, vI ((a : Nat) : Int), vI ((b : Nat) : Int)]) [] S J Q := by
  show V w 0 mX5_unlikeAt 0 [some (vR 313), some (vI ((a : Nat) : Int)), some (vI ((b : Nat) : Int)), none, none] [] S J Q
  refine v_aload_n dX5_unlikeAt_0 rfl ?_
  refine v_getR dX5_unlikeAt_1 frX5_94_5 rfl (L_313 hL).1 (LR_313_40 hL) (Or.inl rfl) ?_
  refine v_iload_n dX5_unlikeAt_4 rfl ?_
  obtain ⟨o1, K⟩ := K
  refine ld_339 dX5_unlikeAt_5 hL (by omega) o1 ?_
  show V w 0 mX5_unlikeAt 6 [some (vR 313), some (vI ((a : Nat) : Int)), some (vI ((b : Nat) : Int)), none, none] [vI (J 339 a)] S J Q
  refine v_aload_n dX5_unlikeAt_6 rfl ?_
  refine v_getR dX5_unlikeAt_7 frX5_94_5 rfl (L_313 hL).1 (LR_313_40 hL) (Or.inl rfl) ?_
  refine v_iload_n dX5_unlikeAt_10 rfl ?_
  obtain ⟨o2, K⟩ := K
  refine ld_339 dX5_unlikeAt_11 hL (by omega) o2 ?_
  show V w 0 mX5_unlikeAt 12 [some (vR 313), some (vI ((a : Nat) : Int)), some (vI ((b : Nat) : Int)), none, none] [vI (J 339 b), vI (J 339 a)] S J Q
  obtain ⟨K1, K2⟩ := K
  refine v_icmp_eq 17 dX5_unlikeAt_12 (by decide) (fun cQ => ?_) (fun cQ => ?_)
  · have K := K1 cQ
    refine v_iconst dX5_unlikeAt_17 (in_lit (by decide)) ?_
    refine v_istore_n dX5_unlikeAt_18 (Nat.le_of_ble_eq_true rfl) ?_
    show V w 0 mX5_unlikeAt 19 [some (vR 313), some (vI ((a : Nat) : Int)), some (vI ((b : Nat) : Int)), some (vI (-1)), none] [] S J Q
    refine v_iconst dX5_unlikeAt_19 (in_lit (by decide)) ?_
    refine v_istore dX5_unlikeAt_20 (Nat.le_of_ble_eq_true rfl) ?_
    show V w 0 mX5_unlikeAt 22 [some (vR 313), some (vI ((a : Nat) : Int)), some (vI ((b : Nat) : Int)), some (vI (-1)), some (vI 0)] [] S J Q
    exact K
  · have K := K2 cQ
    refine v_iconst dX5_unlikeAt_15 (in_lit (by decide)) ?_
    exact v_iret dX5_unlikeAt_16 rfl rfl K
theorem gX5_unlikeAt_22 {w : Wd} {S : Sh} {J : Jm} {Q : Out → Sh → Jm → Prop} (hL : Lay S) (a : Nat) (b : Nat) (f : Int) (i : Nat)
    (K : (((a : Nat) : Int) < 192) ∧ Br (J 339 a ≤ ((i : Nat) : Int)) (Q (.inl (some (vI f))) S J) ((-2147483648 ≤ 6 * ((a : Nat) : Int) ∧ 6 * ((a : Nat) : Int) ≤ 2147483647) ∧ (-2147483648 ≤ ((6 * a : Nat) : Int) + ((i : Nat) : Int) ∧ ((6 * a : Nat) : Int) + ((i : Nat) : Int) ≤ 2147483647) ∧ ((((6 * a) + i : Nat) : Int) < 1152) ∧ (-2147483648 ≤ 6 * ((b : Nat) : Int) ∧ 6 * ((b : Nat) : Int) ≤ 2147483647) ∧ (-2147483648 ≤ ((6 * b : Nat) : Int) + ((i : Nat) : Int) ∧ ((6 * b : Nat) : Int) + ((i : Nat) : Int) ≤ 2147483647) ∧ ((((6 * b) + i : Nat) : Int) < 1152) ∧ Br (J 340 ((6 * a) + i) = J 340 ((6 * b) + i)) ((-2147483648 ≤ ((i : Nat) : Int) + 1 ∧ ((i : Nat) : Int) + 1 ≤ 2147483647) ∧ V w 0 mX5_unlikeAt 22 [some (vR 313), some (vI ((a : Nat) : Int)), some (vI ((b : Nat) : Int)), some (vI f), some (vI ((i + 1 : Nat) : Int))] [] S J Q) (Br (f = (-1)) ((-2147483648 ≤ ((i : Nat) : Int) + 1 ∧ ((i : Nat) : Int) + 1 ≤ 2147483647) ∧ V w 0 mX5_unlikeAt 22 [some (vR 313), some (vI ((a : Nat) : Int)), some (vI ((b : Nat) : Int)), some (vI ((i : Nat) : Int)), some (vI ((i + 1 : Nat) : Int))] [] S J Q) (Q (.inl (some (vI (-1)))) S J)))) :
    V w 0 mX5_unlikeAt 22 [some (vR 313), some (vI ((a : Nat) : Int)), some (vI ((b : Nat) : Int)), some (vI f), some (vI ((i : Nat) : Int))] [] S J Q := by
  refine v_iload dX5_unlikeAt_22 rfl ?_
  refine v_aload_n dX5_unlikeAt_24 rfl ?_
  refine v_getR dX5_unlikeAt_25 frX5_94_5 rfl (L_313 hL).1 (LR_313_40 hL) (Or.inl rfl) ?_
  refine v_iload_n dX5_unlikeAt_28 rfl ?_
  obtain ⟨o1, K⟩ := K
  refine ld_339 dX5_unlikeAt_29 hL (by omega) o1 ?_
  show V w 0 mX5_unlikeAt 30 [some (vR 313), some (vI ((a : Nat) : Int)), some (vI ((b : Nat) : Int)), some (vI f), some (vI ((i : Nat) : Int))] [vI (J 339 a), vI ((i : Nat) : Int)] S J Q
  obtain ⟨K1, K2⟩ := K
  refine v_icmp_ge 79 dX5_unlikeAt_30 (by decide) (fun cQ => ?_) (fun cQ => ?_)
  · have K := K1 cQ
    refine v_iload_n dX5_unlikeAt_79 rfl ?_
    exact v_iret dX5_unlikeAt_80 rfl rfl K
  · have K := K2 cQ
    refine v_aload_n dX5_unlikeAt_33 rfl ?_
    refine v_getR dX5_unlikeAt_34 frX5_97_5 rfl (L_313 hL).1 (LR_313_41 hL) (Or.inl rfl) ?_
    refine v_bipush dX5_unlikeAt_37 (by decide) (in_lit (by decide)) ?_
    refine v_iload_n dX5_unlikeAt_39 rfl ?_
    obtain ⟨o2, K⟩ := K
    refine v_imul dX5_unlikeAt_40 o2 ?_
    show V w 0 mX5_unlikeAt 41 [some (vR 313), some (vI ((a : Nat) : Int)), some (vI ((b : Nat) : Int)), some (vI f), some (vI ((i : Nat) : Int))] [vI ((6 * a : Nat) : Int), vR 340] S J Q
    refine v_iload dX5_unlikeAt_41 rfl ?_
    obtain ⟨o3, K⟩ := K
    refine v_iadd dX5_unlikeAt_43 o3 ?_
    show V w 0 mX5_unlikeAt 44 [some (vR 313), some (vI ((a : Nat) : Int)), some (vI ((b : Nat) : Int)), some (vI f), some (vI ((i : Nat) : Int))] [vI (((6 * a) + i : Nat) : Int), vR 340] S J Q
    obtain ⟨o4, K⟩ := K
    refine ld_340 dX5_unlikeAt_44 hL (by omega) o4 ?_
    show V w 0 mX5_unlikeAt 45 [some (vR 313), some (vI ((a : Nat) : Int)), some (vI ((b : Nat) : Int)), some (vI f), some (vI ((i : Nat) : Int))] [vI (J 340 ((6 * a) + i))] S J Q
    refine v_aload_n dX5_unlikeAt_45 rfl ?_
    refine v_getR dX5_unlikeAt_46 frX5_97_5 rfl (L_313 hL).1 (LR_313_41 hL) (Or.inl rfl) ?_
    refine v_bipush dX5_unlikeAt_49 (by decide) (in_lit (by decide)) ?_
    refine v_iload_n dX5_unlikeAt_51 rfl ?_
    obtain ⟨o5, K⟩ := K
    refine v_imul dX5_unlikeAt_52 o5 ?_
    show V w 0 mX5_unlikeAt 53 [some (vR 313), some (vI ((a : Nat) : Int)), some (vI ((b : Nat) : Int)), some (vI f), some (vI ((i : Nat) : Int))] [vI ((6 * b : Nat) : Int), vR 340, vI (J 340 ((6 * a) + i))] S J Q
    refine v_iload dX5_unlikeAt_53 rfl ?_
    obtain ⟨o6, K⟩ := K
    refine v_iadd dX5_unlikeAt_55 o6 ?_
    show V w 0 mX5_unlikeAt 56 [some (vR 313), some (vI ((a : Nat) : Int)), some (vI ((b : Nat) : Int)), some (vI f), some (vI ((i : Nat) : Int))] [vI (((6 * b) + i : Nat) : Int), vR 340, vI (J 340 ((6 * a) + i))] S J Q
    obtain ⟨o7, K⟩ := K
    refine ld_340 dX5_unlikeAt_56 hL (by omega) o7 ?_
    show V w 0 mX5_unlikeAt 57 [some (vR 313), some (vI ((a : Nat) : Int)), some (vI ((b : Nat) : Int)), some (vI f), some (vI ((i : Nat) : Int))] [vI (J 340 ((6 * b) + i)), vI (J 340 ((6 * a) + i))] S J Q
    obtain ⟨K1, K2⟩ := K
    refine v_icmp_ne 63 dX5_unlikeAt_57 (by decide) (fun cQ => ?_) (fun cQ => ?_)
    · have K := K2 cQ
      refine v_iload_n dX5_unlikeAt_63 rfl ?_
      refine v_iconst dX5_unlikeAt_64 (in_lit (by decide)) ?_
      obtain ⟨K1, K2⟩ := K
      refine v_icmp_eq 70 dX5_unlikeAt_65 (by decide) (fun cQ => ?_) (fun cQ => ?_)
      · have K := K1 cQ
        refine v_iload dX5_unlikeAt_70 rfl ?_
        refine v_istore_n dX5_unlikeAt_72 (Nat.le_of_ble_eq_true rfl) ?_
        show V w 0 mX5_unlikeAt 73 [some (vR 313), some (vI ((a : Nat) : Int)), some (vI ((b : Nat) : Int)), some (vI ((i : Nat) : Int)), some (vI ((i : Nat) : Int))] [] S J Q
        obtain ⟨o8, K⟩ := K
        refine v_iinc dX5_unlikeAt_73 rfl o8 ?_
        show V w 0 mX5_unlikeAt 76 [some (vR 313), some (vI ((a : Nat) : Int)), some (vI ((b : Nat) : Int)), some (vI ((i : Nat) : Int)), some (vI ((i + 1 : Nat) : Int))] [] S J Q
        refine v_goto 22 dX5_unlikeAt_76 (by decide) ?_
        exact K
      · have K := K2 cQ
        refine v_iconst dX5_unlikeAt_68 (in_lit (by decide)) ?_
        exact v_iret dX5_unlikeAt_69 rfl rfl K
    · have K := K1 cQ
      refine v_goto 73 dX5_unlikeAt_60 (by decide) ?_
      obtain ⟨o9, K⟩ := K
      refine v_iinc dX5_unlikeAt_73 rfl o9 ?_
      show V w 0 mX5_unlikeAt 76 [some (vR 313), some (vI ((a : Nat) : Int)), some (vI ((b : Nat) : Int)), some (vI f), some (vI ((i + 1 : Nat) : Int))] [] S J Q
      refine v_goto 22 dX5_unlikeAt_76 (by decide) ?_
      exact K

/-- the places at which two rows differ, the first n looked at -/
def difN (A B : List Int) (n : Nat) : List Nat := (List.range n).filter (fun i => decide (A.getD i 0 ≠ B.getD i 0))
/-- the one place at which two rows of one length differ; -1 -/
def unl (A B : List Int) : Int := if A.length = B.length then (match difN A B A.length with
  | [i] => (i : Int)
  | _ => -1) else -1
theorem difN_succ (A B : List Int) (n : Nat) : difN A B (n + 1) = difN A B n ++ if A.getD n 0 = B.getD n 0 then [] else [n] := by
  unfold difN
  rw [List.range_succ, List.filter_append]
  congr 1
  rw [List.filter_cons, List.filter_nil]
  by_cases h : A.getD n 0 = B.getD n 0
  · rw [if_pos h, if_neg (by rw [decide_eq_true_eq]; exact fun q => q h)]
  · rw [if_neg h, if_pos (decide_eq_true h)]
theorem difN_mem {A B : List Int} {n i : Nat} : i ∈ difN A B n ↔ i < n ∧ A.getD i 0 ≠ B.getD i 0 := by
  unfold difN
  rw [List.mem_filter, List.mem_range, decide_eq_true_eq]
theorem unl_spec (A B : List Int) : unl A B = -1 ∨ (A.length = B.length ∧ ∃ i : Nat, unl A B = i ∧ i < A.length ∧ A.getD i 0 ≠ B.getD i 0 ∧ ∀ j, j < A.length → j ≠ i → A.getD j 0 = B.getD j 0) := by
  unfold unl
  split
  · rename_i hl
    split
    · rename_i i hi
      refine Or.inr ⟨hl, i, rfl, ?_⟩
      have h1 : i ∈ difN A B A.length := by rw [hi]; exact List.mem_singleton.mpr rfl
      refine ⟨(difN_mem.mp h1).1, (difN_mem.mp h1).2, fun j hj hne => ?_⟩
      apply Classical.byContradiction
      intro h
      have : j ∈ difN A B A.length := difN_mem.mpr ⟨hj, h⟩
      rw [hi] at this
      exact hne (List.mem_singleton.mp this)
    · exact Or.inl rfl
  · exact Or.inl rfl
theorem wrow_len (J : Jm) (a : Nat) : (wrow J a).length = (J 339 a).toNat := by unfold wrow; simp
theorem wrow_get {J : Jm} {a i : Nat} (h : (i : Int) < J 339 a) : (wrow J a).getD i 0 = J 340 (6 * a + i) := by
  unfold wrow
  rw [List.getD_eq_getElem?_getD, List.getElem?_map, List.getElem?_range (by omega)]
  rfl
theorem s_unlikeAt {w : Wd} {S : Sh} {J : Jm} {Q : Out → Sh → Jm → Prop} (hL : Lay S) (x1 x2 : Int) (h1 : 0 ≤ x1 ∧ x1 < 192) (h2 : 0 ≤ x2 ∧ x2 < 192) (hs1 : 0 ≤ J 339 x1.toNat ∧ J 339 x1.toNat ≤ 6)  (hs2 : 0 ≤ J 339 x2.toNat ∧ J 339 x2.toNat ≤ 6)
    (K : Q (.inl (some (vI (unl (wrow J x1.toNat) (wrow J x2.toNat))))) S J) : V w 0 mX5_unlikeAt 0 (ent mX5_unlikeAt [vR 313, vI x1, vI x2]) [] S J Q := by
  obtain ⟨a, rfl⟩ : ∃ a : Nat, x1 = a := ⟨x1.toNat, by omega⟩
  obtain ⟨b, rfl⟩ : ∃ b : Nat, x2 = b := ⟨x2.toNat, by omega⟩
  simp only [Int.toNat_natCast] at *
  obtain ⟨N, hN⟩ : ∃ N : Nat, J 339 a = N := ⟨(J 339 a).toNat, by omega⟩
  have lA : (wrow J a).length = N := by rw [wrow_len]; omega
  have lB : (wrow J b).length = (J 339 b).toNat := wrow_len J b
  have key : J 339 a = J 339 b → ∀ (n i : Nat) (f : Int), i + n = N → (f = -1 ∧ difN (wrow J a) (wrow J b) i = [] ∨ ∃ j : Nat, f = j ∧ difN (wrow J a) (wrow J b) i = [j]) → V w 0 mX5_unlikeAt 22 [some (vR 313), some (vI (a : Int)), some (vI (b : Int)), some (vI f), some (vI (i : Int))] [] S J Q := by
    intro he n
    have hu : unl (wrow J a) (wrow J b) = match difN (wrow J a) (wrow J b) N with
      | [i] => (i : Int)
      | _ => -1 := by
      unfold unl
      rw [if_pos (by rw [lA, lB]; omega), lA]
    induction n with
    | zero =>
      intro i f hi hI
      obtain rfl : i = N := by omega
      refine gX5_unlikeAt_22 hL a b f i ⟨by omega, br_y (by omega) ?_⟩
      rw [hu] at K
      rcases hI with ⟨rfl, e⟩ | ⟨j, rfl, e⟩ <;> rw [e] at K <;> exact K
    | succ n ih =>
      intro i f hi hI
      have hd := difN_succ (wrow J a) (wrow J b) i
      rw [wrow_get (by omega), wrow_get (by omega)] at hd
      refine gX5_unlikeAt_22 hL a b f i ⟨by omega, br_n (by omega) ⟨by omega, by omega, by omega, by omega, by omega, by omega, br_i (fun c => ⟨by omega, ?_⟩) (fun c => br_i (fun c2 => ⟨by omega, ?_⟩) (fun c2 => ?_))⟩⟩
      · rw [if_pos c, List.append_nil] at hd
        refine ih (i + 1) f (by omega) ?_
        rw [hd]
        exact hI
      · rw [if_neg c] at hd
        rcases hI with ⟨rfl, e⟩ | ⟨j, rfl, e⟩
        · rw [e] at hd
          exact ih (i + 1) i (by omega) (Or.inr ⟨i, rfl, hd⟩)
        · omega
      · rw [if_neg c] at hd
        rcases hI with ⟨rfl, e⟩ | ⟨j, rfl, e⟩
        · exact absurd rfl c2
        · rw [e] at hd
          -- two differ
          have : unl (wrow J a) (wrow J b) = -1 := by
            rcases unl_spec (wrow J a) (wrow J b) with q | ⟨-, k, -, -, -, q⟩
            · exact q
            · have m1 : j ∈ difN (wrow J a) (wrow J b) (i + 1) := by rw [hd]; simp
              have m2 : i ∈ difN (wrow J a) (wrow J b) (i + 1) := by rw [hd]; simp
              have m3 : j < i := by
                have : j ∈ difN (wrow J a) (wrow J b) i := by rw [e]; simp
                exact (difN_mem.mp this).1
              have n1 : j = k := Classical.byContradiction fun h => (difN_mem.mp m1).2 (q j (by omega) h)
              have n2 : i = k := Classical.byContradiction fun h => (difN_mem.mp m2).2 (q i (by omega) h)
              omega
          rw [this] at K
          exact K
  refine gX5_unlikeAt_0 hL a b ⟨by omega, by omega, br_i (fun c => ?_) (fun c => ?_)⟩
  · exact key c N 0 (-1) (by omega) (Or.inl ⟨rfl, rfl⟩)
  · have : unl (wrow J a) (wrow J b) = -1 := by
      unfold unl
      rw [if_neg (by rw [lA, lB]; omega)]
    rw [this] at K
    exact K
theorem gX5_tellsBy_0 {w : Wd} {S : Sh} {J : Jm} {Q : Out → Sh → Jm → Prop} (hL : Lay S) (x1 : Int) (x2 : Int) (x3 : Int)
    (K : (0 ≤ x2 ∧ x2 < 192) ∧ (0 ≤ x3 ∧ x3 < 192) ∧ (0 ≤ J 339 x2.toNat ∧ J 339 x2.toNat ≤ 6) ∧ (0 ≤ J 339 x3.toNat ∧ J 339 x3.toNat ≤ 6) ∧ Br (unl (wrow J x2.toNat) (wrow J x3.toNat) = (-1)) (Q (.inl (some (vI 0))) S J) ((0 ≤ x2) ∧ (x2 < 192) ∧ (0 ≤ x1) ∧ (x1 < 132) ∧ Br (J 323 x1.toNat ≤ J 339 x2.toNat) ((0 ≤ x1) ∧ (x1 < 132) ∧ Br (J 322 x1.toNat = 0) (Br (unl (wrow J x2.toNat) (wrow J x3.toNat) = 0) (Q (.inl (some (vI 1))) S J) (Q (.inl (some (vI 0))) S J)) ((0 ≤ x1) ∧ (x1 < 132) ∧ Br (J 322 x1.toNat = 7) ((0 ≤ x2) ∧ (x2 < 192) ∧ (-2147483648 ≤ (J 339 x2.toNat) - 1 ∧ (J 339 x2.toNat) - 1 ≤ 2147483647) ∧ Br (unl (wrow J x2.toNat) (wrow J x3.toNat) = (J 339 x2.toNat) - 1) (Q (.inl (some (vI 1))) S J) (Q (.inl (some (vI 0))) S J)) ((0 ≤ x1) ∧ (x1 < 132) ∧ (-2147483648 ≤ (J 322 x1.toNat) - 1 ∧ (J 322 x1.toNat) - 1 ≤ 2147483647) ∧ Br (unl (wrow J x2.toNat) (wrow J x3.toNat) = (J 322 x1.toNat) - 1) (Q (.inl (some (vI 1))) S J) (Q (.inl (some (vI 0))) S J)))) (Q (.inl (some (vI 0))) S J))) :
    V w 1 mX5_tellsBy 0 (ent mX5_tellsBy [vR 313, vI x1, vI x2, vI x3]) [] S J Q := by
  show V w 1 mX5_tellsBy 0 [some (vR 313), some (vI x1), some (vI x2), some (vI x3), none] [] S J Q
  refine v_aload_n dX5_tellsBy_0 rfl ?_
  refine v_iload_n dX5_tellsBy_1 rfl ?_
  refine v_iload_n dX5_tellsBy_2 rfl ?_
  refine v_callV (d' := 0) (rest := []) [vI x2, vI x3] dX5_tellsBy_3 vrX5_320_5 (L_313 hL).1 rfl rfl (one_I (one_I one_nil)) (Nat.le_of_ble_eq_true rfl) (Nat.le_of_ble_eq_true rfl) (Nat.le_of_ble_eq_true rfl) ?_
  obtain ⟨o1, K⟩ := K
  obtain ⟨o2, K⟩ := K
  obtain ⟨o3, K⟩ := K
  obtain ⟨o4, K⟩ := K
  refine s_unlikeAt hL x2 x3 o1 o2 o3 o4 ?_
  show V w 1 mX5_tellsBy 6 [some (vR 313), some (vI x1), some (vI x2), some (vI x3), none] [vI (unl (wrow J x2.toNat) (wrow J x3.toNat))] S J Q
  refine v_istore dX5_tellsBy_6 (Nat.le_of_ble_eq_true rfl) ?_
  show V w 1 mX5_tellsBy 8 [some (vR 313), some (vI x1), some (vI x2), some (vI x3), some (vI (unl (wrow J x2.toNat) (wrow J x3.toNat)))] [] S J Q
  refine v_iload dX5_tellsBy_8 rfl ?_
  refine v_iconst dX5_tellsBy_10 (in_lit (by decide)) ?_
  obtain ⟨K1, K2⟩ := K
  refine v_icmp_eq 29 dX5_tellsBy_11 (by decide) (fun cQ => ?_) (fun cQ => ?_)
  · have K := K1 cQ
    refine v_iconst dX5_tellsBy_29 (in_lit (by decide)) ?_
    exact v_iret dX5_tellsBy_30 rfl (by decide) K
  · have K := K2 cQ
    refine v_aload_n dX5_tellsBy_14 rfl ?_
    refine v_getR dX5_tellsBy_15 frX5_94_5 rfl (L_313 hL).1 (LR_313_40 hL) (Or.inl rfl) ?_
    refine v_iload_n dX5_tellsBy_18 rfl ?_
    obtain ⟨o5, K⟩ := K
    obtain ⟨o6, K⟩ := K
    refine ld_339 dX5_tellsBy_19 hL o5 o6 ?_
    refine v_aload_n dX5_tellsBy_20 rfl ?_
    refine v_getR dX5_tellsBy_21 frX5_41_5 rfl (L_313 hL).1 (LR_313_13 hL) (Or.inl rfl) ?_
    refine v_iload_n dX5_tellsBy_24 rfl ?_
    obtain ⟨o7, K⟩ := K
    obtain ⟨o8, K⟩ := K
    refine ld_323 dX5_tellsBy_25 hL o7 o8 ?_
    obtain ⟨K1, K2⟩ := K
    refine v_icmp_ge 31 dX5_tellsBy_26 (by decide) (fun cQ => ?_) (fun cQ => ?_)
    · have K := K1 cQ
      refine v_aload_n dX5_tellsBy_31 rfl ?_
      refine v_getR dX5_tellsBy_32 frX5_38_5 rfl (L_313 hL).1 (LR_313_12 hL) (Or.inl rfl) ?_
      refine v_iload_n dX5_tellsBy_35 rfl ?_
      obtain ⟨o9, K⟩ := K
      obtain ⟨o10, K⟩ := K
      refine ld_322 dX5_tellsBy_36 hL o9 o10 ?_
      obtain ⟨K1, K2⟩ := K
      refine v_if_ne 53 dX5_tellsBy_37 (by decide) (fun cQ => ?_) (fun cQ => ?_)
      · have K := K2 cQ
        refine v_aload_n dX5_tellsBy_53 rfl ?_
        refine v_getR dX5_tellsBy_54 frX5_38_5 rfl (L_313 hL).1 (LR_313_12 hL) (Or.inl rfl) ?_
        refine v_iload_n dX5_tellsBy_57 rfl ?_
        obtain ⟨o11, K⟩ := K
        obtain ⟨o12, K⟩ := K
        refine ld_322 dX5_tellsBy_58 hL o11 o12 ?_
        refine v_bipush dX5_tellsBy_59 (by decide) (in_lit (by decide)) ?_
        obtain ⟨K1, K2⟩ := K
        refine v_icmp_ne 85 dX5_tellsBy_61 (by decide) (fun cQ => ?_) (fun cQ => ?_)
        · have K := K2 cQ
          refine v_iload dX5_tellsBy_85 rfl ?_
          refine v_aload_n dX5_tellsBy_87 rfl ?_
          refine v_getR dX5_tellsBy_88 frX5_38_5 rfl (L_313 hL).1 (LR_313_12 hL) (Or.inl rfl) ?_
          refine v_iload_n dX5_tellsBy_91 rfl ?_
          obtain ⟨o13, K⟩ := K
          obtain ⟨o14, K⟩ := K
          refine ld_322 dX5_tellsBy_92 hL o13 o14 ?_
          refine v_iconst dX5_tellsBy_93 (in_lit (by decide)) ?_
          obtain ⟨o15, K⟩ := K
          refine v_isub dX5_tellsBy_94 o15 ?_
          obtain ⟨K1, K2⟩ := K
          refine v_icmp_ne 102 dX5_tellsBy_95 (by decide) (fun cQ => ?_) (fun cQ => ?_)
          · have K := K2 cQ
            refine v_iconst dX5_tellsBy_102 (in_lit (by decide)) ?_
            exact v_iret dX5_tellsBy_103 rfl (by decide) K
          · have K := K1 cQ
            refine v_iconst dX5_tellsBy_98 (in_lit (by decide)) ?_
            refine v_goto 103 dX5_tellsBy_99 (by decide) ?_
            exact v_iret dX5_tellsBy_103 rfl (by decide) K
        · have K := K1 cQ
          refine v_iload dX5_tellsBy_64 rfl ?_
          refine v_aload_n dX5_tellsBy_66 rfl ?_
          refine v_getR dX5_tellsBy_67 frX5_94_5 rfl (L_313 hL).1 (LR_313_40 hL) (Or.inl rfl) ?_
          refine v_iload_n dX5_tellsBy_70 rfl ?_
          obtain ⟨o16, K⟩ := K
          obtain ⟨o17, K⟩ := K
          refine ld_339 dX5_tellsBy_71 hL o16 o17 ?_
          refine v_iconst dX5_tellsBy_72 (in_lit (by decide)) ?_
          obtain ⟨o18, K⟩ := K
          refine v_isub dX5_tellsBy_73 o18 ?_
          obtain ⟨K1, K2⟩ := K
          refine v_icmp_ne 81 dX5_tellsBy_74 (by decide) (fun cQ => ?_) (fun cQ => ?_)
          · have K := K2 cQ
            refine v_iconst dX5_tellsBy_81 (in_lit (by decide)) ?_
            refine v_goto 103 dX5_tellsBy_82 (by decide) ?_
            exact v_iret dX5_tellsBy_103 rfl (by decide) K
          · have K := K1 cQ
            refine v_iconst dX5_tellsBy_77 (in_lit (by decide)) ?_
            refine v_goto 103 dX5_tellsBy_78 (by decide) ?_
            exact v_iret dX5_tellsBy_103 rfl (by decide) K
      · have K := K1 cQ
        refine v_iload dX5_tellsBy_40 rfl ?_
        obtain ⟨K1, K2⟩ := K
        refine v_if_ne 49 dX5_tellsBy_42 (by decide) (fun cQ => ?_) (fun cQ => ?_)
        · have K := K2 cQ
          refine v_iconst dX5_tellsBy_49 (in_lit (by decide)) ?_
          refine v_goto 103 dX5_tellsBy_50 (by decide) ?_
          exact v_iret dX5_tellsBy_103 rfl (by decide) K
        · have K := K1 cQ
          refine v_iconst dX5_tellsBy_45 (in_lit (by decide)) ?_
          refine v_goto 103 dX5_tellsBy_46 (by decide) ?_
          exact v_iret dX5_tellsBy_103 rfl (by decide) K
    · have K := K2 cQ
      refine v_iconst dX5_tellsBy_29 (in_lit (by decide)) ?_
      exact v_iret dX5_tellsBy_30 rfl (by decide) K
theorem sX5_tellsBy {w : Wd} {S : Sh} {J : Jm} {Q : Out → Sh → Jm → Prop} (hL : Lay S) (x1 : Int) (x2 : Int) (x3 : Int) (p0 : 0 ≤ x1 ∧ x1 < 132) (p1 : 0 ≤ x2 ∧ x2 < 192) (p2 : 0 ≤ x3 ∧ x3 < 192) (p3 : 0 ≤ J 339 x2.toNat ∧ J 339 x2.toNat ≤ 6) (p4 : 0 ≤ J 339 x3.toNat ∧ J 339 x3.toNat ≤ 6) (p5 : 0 ≤ J 322 x1.toNat ∧ J 322 x1.toNat ≤ 7) (K1 : (¬ unl (wrow J x2.toNat) (wrow J x3.toNat) = -1 ∧ J 323 x1.toNat ≤ J 339 x2.toNat ∧ ((J 322 x1.toNat = 0 ∧ unl (wrow J x2.toNat) (wrow J x3.toNat) = 0) ∨ (¬ J 322 x1.toNat = 0 ∧ J 322 x1.toNat = 7 ∧ unl (wrow J x2.toNat) (wrow J x3.toNat) = J 339 x2.toNat - 1) ∨ (¬ J 322 x1.toNat = 0 ∧ ¬ J 322 x1.toNat = 7 ∧ unl (wrow J x2.toNat) (wrow J x3.toNat) = J 322 x1.toNat - 1))) → Q (.inl (some (vI 1))) S J) (K2 : ¬ (¬ unl (wrow J x2.toNat) (wrow J x3.toNat) = -1 ∧ J 323 x1.toNat ≤ J 339 x2.toNat ∧ ((J 322 x1.toNat = 0 ∧ unl (wrow J x2.toNat) (wrow J x3.toNat) = 0) ∨ (¬ J 322 x1.toNat = 0 ∧ J 322 x1.toNat = 7 ∧ unl (wrow J x2.toNat) (wrow J x3.toNat) = J 339 x2.toNat - 1) ∨ (¬ J 322 x1.toNat = 0 ∧ ¬ J 322 x1.toNat = 7 ∧ unl (wrow J x2.toNat) (wrow J x3.toNat) = J 322 x1.toNat - 1))) → Q (.inl (some (vI 0))) S J) : V w 1 mX5_tellsBy 0 (ent mX5_tellsBy [vR 313, vI x1, vI x2, vI x3]) [] S J Q := by
  refine gX5_tellsBy_0 hL x1 x2 x3 ?_
  repeat' (first | refine br_i (fun hb => ?_) (fun hb => ?_) | (refine And.intro ?_ ?_; omega))
  all_goals (first | exact K1 (by omega) | exact K2 (by omega))

/-- by a clause c two rows tell that two signs share something -/
abbrev tls (J : Jm) (c : Nat) (A B : List Int) : Prop := ¬ unl A B = -1 ∧ J 323 c ≤ A.length ∧ ((J 322 c = 0 ∧ unl A B = 0) ∨ (¬ J 322 c = 0 ∧ J 322 c = 7 ∧ unl A B = A.length - 1) ∨ (¬ J 322 c = 0 ∧ ¬ J 322 c = 7 ∧ unl A B = J 322 c - 1))
theorem s_tellsBy {w : Wd} {S : Sh} {J : Jm} {Q : Out → Sh → Jm → Prop} (hL : Lay S) (x1 x2 x3 : Int) (p0 : 0 ≤ x1 ∧ x1 < 132) (p1 : 0 ≤ x2 ∧ x2 < 192) (p2 : 0 ≤ x3 ∧ x3 < 192) (p3 : 0 ≤ J 339 x2.toNat ∧ J 339 x2.toNat ≤ 6) (p4 : 0 ≤ J 339 x3.toNat ∧ J 339 x3.toNat ≤ 6) (p5 : 0 ≤ J 322 x1.toNat ∧ J 322 x1.toNat ≤ 7)
    (K1 : tls J x1.toNat (wrow J x2.toNat) (wrow J x3.toNat) → Q (.inl (some (vI 1))) S J) (K2 : ¬ tls J x1.toNat (wrow J x2.toNat) (wrow J x3.toNat) → Q (.inl (some (vI 0))) S J) : V w 1 mX5_tellsBy 0 (ent mX5_tellsBy [vR 313, vI x1, vI x2, vI x3]) [] S J Q := by
  have e : ((wrow J x2.toNat).length : Int) = J 339 x2.toNat := by rw [wrow_len]; omega
  unfold tls at K1 K2
  rw [e] at K1 K2
  exact sX5_tellsBy hL x1 x2 x3 p0 p1 p2 p3 p4 p5 K1 K2
/-- what pairs of rows tell: for a row and the m behind it; for the first a rows of n -/
def tp1 (J : Jm) (c : Nat) (ρ : Nat → List Int) (a b : Nat) : List (Int × Int) := if tls J c (ρ a) (ρ b) then [((ρ a).getD (unl (ρ a) (ρ b)).toNat 0, (ρ b).getD (unl (ρ a) (ρ b)).toNat 0)] else []
def tpI (J : Jm) (c : Nat) (ρ : Nat → List Int) (a : Nat) : Nat → List (Int × Int)
  | 0 => []
  | m + 1 => tpI J c ρ a m ++ tp1 J c ρ a (a + 1 + m)
def tpO (J : Jm) (c : Nat) (ρ : Nat → List Int) (n : Nat) : Nat → List (Int × Int)
  | 0 => []
  | a + 1 => tpO J c ρ n a ++ tpI J c ρ a (n - (a + 1))
def tpOf (J : Jm) (c : Nat) (L : List (List Int)) : List (Int × Int) := tpO J c (fun a => L.getD a []) L.length L.length
def cntP (x y : Int) (l : List (Int × Int)) : Nat := l.countP (fun p => decide ((p.1 = x ∧ p.2 = y) ∨ (p.1 = y ∧ p.2 = x)))
theorem tp1_len (J : Jm) (c : Nat) (ρ : Nat → List Int) (a b : Nat) : (tp1 J c ρ a b).length ≤ 1 := by unfold tp1; split <;> simp
theorem tpI_len (J : Jm) (c : Nat) (ρ : Nat → List Int) (a : Nat) : ∀ m, (tpI J c ρ a m).length ≤ m
  | 0 => by simp [tpI]
  | m + 1 => by
    have := tpI_len J c ρ a m
    have := tp1_len J c ρ a (a + 1 + m)
    unfold tpI
    rw [List.length_append]
    omega
theorem tpO_len (J : Jm) (c : Nat) (ρ : Nat → List Int) (n : Nat) : ∀ a, (tpO J c ρ n a).length ≤ a * n
  | 0 => by simp [tpO]
  | a + 1 => by
    have := tpO_len J c ρ n a
    have := tpI_len J c ρ a (n - (a + 1))
    unfold tpO
    rw [List.length_append, Nat.succ_mul]
    omega
theorem tp_cong {J : Jm} {c n : Nat} {ρ ρ' : Nat → List Int} (h : ∀ a, a < n → ρ a = ρ' a) : (∀ a m, a + m < n → tpI J c ρ a m = tpI J c ρ' a m) ∧ ∀ a, a ≤ n → tpO J c ρ n a = tpO J c ρ' n a := by
  have h1 : ∀ a m, a + m < n → tpI J c ρ a m = tpI J c ρ' a m := by
    intro a m
    induction m with
    | zero => intro _; rfl
    | succ m ih =>
      intro hm
      unfold tpI tp1
      rw [ih (by omega), h a (by omega), h (a + 1 + m) (by omega)]
  refine ⟨h1, fun a => ?_⟩
  induction a with
  | zero => intro _; rfl
  | succ a ih =>
    intro ha
    unfold tpO
    rw [ih (by omega), h1 a _ (by omega)]
/-- the rows as a list stands for them -/
theorem PWh.tp {J : Jm} {L : List (List Int)} (h : PWh J L) (c : Nat) : tpO J c (wrow J) L.length L.length = tpOf J c L := (tp_cong (fun a ha => (h.2 a ha).2)).2 _ (Nat.le_refl _)
theorem cntP_app (x y : Int) (l m : List (Int × Int)) : cntP x y (l ++ m) = cntP x y l + cntP x y m := by unfold cntP; exact List.countP_append
theorem cntP_le (x y : Int) (l : List (Int × Int)) : cntP x y l ≤ l.length := by unfold cntP; exact List.countP_le_length
theorem cntP_1 (x y p q : Int) : cntP x y [(p, q)] = if (p = x ∧ q = y) ∨ (p = y ∧ q = x) then 1 else 0 := by
  unfold cntP
  rw [List.countP_cons, List.countP_nil]
  simp
theorem gX5_pairsOf_0 {w : Wd} {S : Sh} {J : Jm} {Q : Out → Sh → Jm → Prop} (hL : Lay S) (c : Nat) (x : Int) (y : Int)
    (K : V w 2 mX5_pairsOf 6 [some (vR 313), some (vI ((c : Nat) : Int)), some (vI x), some (vI y), some (vI 0), some (vI 0), none, none, none, none] [] S J Q) :
    V w 2 mX5_pairsOf 0 (ent mX5_pairsOf [vR 313, vI ((c : Nat) : Int), vI x, vI y]) [] S J Q := by
  show V w 2 mX5_pairsOf 0 [some (vR 313), some (vI ((c : Nat) : Int)), some (vI x), some (vI y), none, none, none, none, none, none] [] S J Q
  refine v_iconst dX5_pairsOf_0 (in_lit (by decide)) ?_
  refine v_istore dX5_pairsOf_1 (Nat.le_of_ble_eq_true rfl) ?_
  show V w 2 mX5_pairsOf 3 [some (vR 313), some (vI ((c : Nat) : Int)), some (vI x), some (vI y), some (vI 0), none, none, none, none, none] [] S J Q
  refine v_iconst dX5_pairsOf_3 (in_lit (by decide)) ?_
  refine v_istore dX5_pairsOf_4 (Nat.le_of_ble_eq_true rfl) ?_
  show V w 2 mX5_pairsOf 6 [some (vR 313), some (vI ((c : Nat) : Int)), some (vI x), some (vI y), some (vI 0), some (vI 0), none, none, none, none] [] S J Q
  exact K
theorem gX5_pairsOf_6 {w : Wd} {S : Sh} {J : Jm} {Q : Out → Sh → Jm → Prop} (hL : Lay S) (c : Nat) (x : Int) (y : Int) (n : Nat) (a : Nat)
    (K : Br (J 313 39 ≤ ((a : Nat) : Int)) (Q (.inl (some (vI ((n : Nat) : Int)))) S J) ((-2147483648 ≤ ((a : Nat) : Int) + 1 ∧ ((a : Nat) : Int) + 1 ≤ 2147483647) ∧ V w 2 mX5_pairsOf 21 [some (vR 313), some (vI ((c : Nat) : Int)), some (vI x), some (vI y), some (vI ((n : Nat) : Int)), some (vI ((a : Nat) : Int)), some (vI ((a + 1 : Nat) : Int)), none, none, none] [] S J Q)) :
    V w 2 mX5_pairsOf 6 [some (vR 313), some (vI ((c : Nat) : Int)), some (vI x), some (vI y), some (vI ((n : Nat) : Int)), some (vI ((a : Nat) : Int)), none, none, none, none] [] S J Q := by
  refine v_iload dX5_pairsOf_6 rfl ?_
  refine v_aload_n dX5_pairsOf_8 rfl ?_
  refine v_getI dX5_pairsOf_9 frX5_307_5 rfl rfl (L_313 hL).1 ?_
  obtain ⟨K1, K2⟩ := K
  refine v_icmp_ge 124 dX5_pairsOf_12 (by decide) (fun cQ => ?_) (fun cQ => ?_)
  · have K := K1 cQ
    refine v_iload dX5_pairsOf_124 rfl ?_
    exact v_iret dX5_pairsOf_126 rfl rfl K
  · have K := K2 cQ
    refine v_iload dX5_pairsOf_15 rfl ?_
    refine v_iconst dX5_pairsOf_17 (in_lit (by decide)) ?_
    obtain ⟨o1, K⟩ := K
    refine v_iadd dX5_pairsOf_18 o1 ?_
    show V w 2 mX5_pairsOf 19 [some (vR 313), some (vI ((c : Nat) : Int)), some (vI x), some (vI y), some (vI ((n : Nat) : Int)), some (vI ((a : Nat) : Int)), none, none, none, none] [vI ((a + 1 : Nat) : Int)] S J Q
    refine v_istore dX5_pairsOf_19 (Nat.le_of_ble_eq_true rfl) ?_
    show V w 2 mX5_pairsOf 21 [some (vR 313), some (vI ((c : Nat) : Int)), some (vI x), some (vI y), some (vI ((n : Nat) : Int)), some (vI ((a : Nat) : Int)), some (vI ((a + 1 : Nat) : Int)), none, none, none] [] S J Q
    exact K
theorem gX5_pairsOf_21 {w : Wd} {S : Sh} {J : Jm} {Q : Out → Sh → Jm → Prop} (hL : Lay S) (c : Nat) (x : Int) (y : Int) (n : Nat) (a : Nat) (b : Nat)
    (K : Br (J 313 39 ≤ ((b : Nat) : Int)) ((-2147483648 ≤ ((a : Nat) : Int) + 1 ∧ ((a : Nat) : Int) + 1 ≤ 2147483647) ∧ V w 2 mX5_pairsOf 6 [some (vR 313), some (vI ((c : Nat) : Int)), some (vI x), some (vI y), some (vI ((n : Nat) : Int)), some (vI ((a + 1 : Nat) : Int)), none, none, none, none] [] S J Q) ((0 ≤ ((c : Nat) : Int) ∧ ((c : Nat) : Int) < 132) ∧ (0 ≤ ((a : Nat) : Int) ∧ ((a : Nat) : Int) < 192) ∧ (0 ≤ ((b : Nat) : Int) ∧ ((b : Nat) : Int) < 192) ∧ (0 ≤ J 339 ((a : Nat) : Int).toNat ∧ J 339 ((a : Nat) : Int).toNat ≤ 6) ∧ (0 ≤ J 339 ((b : Nat) : Int).toNat ∧ J 339 ((b : Nat) : Int).toNat ≤ 6) ∧ (0 ≤ J 322 ((c : Nat) : Int).toNat ∧ J 322 ((c : Nat) : Int).toNat ≤ 7) ∧ Br (tls J ((c : Nat) : Int).toNat (wrow J ((a : Nat) : Int).toNat) (wrow J ((b : Nat) : Int).toNat)) ((0 ≤ ((a : Nat) : Int) ∧ ((a : Nat) : Int) < 192) ∧ (0 ≤ ((b : Nat) : Int) ∧ ((b : Nat) : Int) < 192) ∧ (0 ≤ J 339 ((a : Nat) : Int).toNat ∧ J 339 ((a : Nat) : Int).toNat ≤ 6) ∧ (0 ≤ J 339 ((b : Nat) : Int).toNat ∧ J 339 ((b : Nat) : Int).toNat ≤ 6) ∧ (-2147483648 ≤ 6 * ((a : Nat) : Int) ∧ 6 * ((a : Nat) : Int) ≤ 2147483647) ∧ (-2147483648 ≤ ((6 * a : Nat) : Int) + (unl (wrow J ((a : Nat) : Int).toNat) (wrow J ((b : Nat) : Int).toNat)) ∧ ((6 * a : Nat) : Int) + (unl (wrow J ((a : Nat) : Int).toNat) (wrow J ((b : Nat) : Int).toNat)) ≤ 2147483647) ∧ (0 ≤ ((6 * a : Nat) : Int) + (unl (wrow J ((a : Nat) : Int).toNat) (wrow J ((b : Nat) : Int).toNat))) ∧ (((6 * a : Nat) : Int) + (unl (wrow J ((a : Nat) : Int).toNat) (wrow J ((b : Nat) : Int).toNat)) < 1152) ∧ (-2147483648 ≤ 6 * ((b : Nat) : Int) ∧ 6 * ((b : Nat) : Int) ≤ 2147483647) ∧ (-2147483648 ≤ ((6 * b : Nat) : Int) + (unl (wrow J ((a : Nat) : Int).toNat) (wrow J ((b : Nat) : Int).toNat)) ∧ ((6 * b : Nat) : Int) + (unl (wrow J ((a : Nat) : Int).toNat) (wrow J ((b : Nat) : Int).toNat)) ≤ 2147483647) ∧ (0 ≤ ((6 * b : Nat) : Int) + (unl (wrow J ((a : Nat) : Int).toNat) (wrow J ((b : Nat) : Int).toNat))) ∧ (((6 * b : Nat) : Int) + (unl (wrow J ((a : Nat) : Int).toNat) (wrow J ((b : Nat) : Int).toNat)) < 1152) ∧ Br (J 340 (((6 * a : Nat) : Int) + (unl (wrow J ((a : Nat) : Int).toNat) (wrow J ((b : Nat) : Int).toNat))).toNat = x) (Br (J 340 (((6 * b : Nat) : Int) + (unl (wrow J ((a : Nat) : Int).toNat) (wrow J ((b : Nat) : Int).toNat))).toNat = y) ((-2147483648 ≤ ((n : Nat) : Int) + 1 ∧ ((n : Nat) : Int) + 1 ≤ 2147483647) ∧ (-2147483648 ≤ ((b : Nat) : Int) + 1 ∧ ((b : Nat) : Int) + 1 ≤ 2147483647) ∧ V w 2 mX5_pairsOf 21 [some (vR 313), some (vI ((c : Nat) : Int)), some (vI x), some (vI y), some (vI ((n + 1 : Nat) : Int)), some (vI ((a : Nat) : Int)), some (vI ((b + 1 : Nat) : Int)), none, none, none] [] S J Q) (Br (J 340 (((6 * a : Nat) : Int) + (unl (wrow J ((a : Nat) : Int).toNat) (wrow J ((b : Nat) : Int).toNat))).toNat = y) (Br (J 340 (((6 * b : Nat) : Int) + (unl (wrow J ((a : Nat) : Int).toNat) (wrow J ((b : Nat) : Int).toNat))).toNat = x) ((-2147483648 ≤ ((n : Nat) : Int) + 1 ∧ ((n : Nat) : Int) + 1 ≤ 2147483647) ∧ (-2147483648 ≤ ((b : Nat) : Int) + 1 ∧ ((b : Nat) : Int) + 1 ≤ 2147483647) ∧ V w 2 mX5_pairsOf 21 [some (vR 313), some (vI ((c : Nat) : Int)), some (vI x), some (vI y), some (vI ((n + 1 : Nat) : Int)), some (vI ((a : Nat) : Int)), some (vI ((b + 1 : Nat) : Int)), none, none, none] [] S J Q) ((-2147483648 ≤ ((b : Nat) : Int) + 1 ∧ ((b : Nat) : Int) + 1 ≤ 2147483647) ∧ V w 2 mX5_pairsOf 21 [some (vR 313), some (vI ((c : Nat) : Int)), some (vI x), some (vI y), some (vI ((n : Nat) : Int)), some (vI ((a : Nat) : Int)), some (vI ((b + 1 : Nat) : Int)), none, none, none] [] S J Q)) ((-2147483648 ≤ ((b : Nat) : Int) + 1 ∧ ((b : Nat) : Int) + 1 ≤ 2147483647) ∧ V w 2 mX5_pairsOf 21 [some (vR 313), some (vI ((c : Nat) : Int)), some (vI x), some (vI y), some (vI ((n : Nat) : Int)), some (vI ((a : Nat) : Int)), some (vI ((b + 1 : Nat) : Int)), none, none, none] [] S J Q))) (Br (J 340 (((6 * a : Nat) : Int) + (unl (wrow J ((a : Nat) : Int).toNat) (wrow J ((b : Nat) : Int).toNat))).toNat = y) (Br (J 340 (((6 * b : Nat) : Int) + (unl (wrow J ((a : Nat) : Int).toNat) (wrow J ((b : Nat) : Int).toNat))).toNat = x) ((-2147483648 ≤ ((n : Nat) : Int) + 1 ∧ ((n : Nat) : Int) + 1 ≤ 2147483647) ∧ (-2147483648 ≤ ((b : Nat) : Int) + 1 ∧ ((b : Nat) : Int) + 1 ≤ 2147483647) ∧ V w 2 mX5_pairsOf 21 [some (vR 313), some (vI ((c : Nat) : Int)), some (vI x), some (vI y), some (vI ((n + 1 : Nat) : Int)), some (vI ((a : Nat) : Int)), some (vI ((b + 1 : Nat) : Int)), none, none, none] [] S J Q) ((-2147483648 ≤ ((b : Nat) : Int) + 1 ∧ ((b : Nat) : Int) + 1 ≤ 2147483647) ∧ V w 2 mX5_pairsOf 21 [some (vR 313), some (vI ((c : Nat) : Int)), some (vI x), some (vI y), some (vI ((n : Nat) : Int)), some (vI ((a : Nat) : Int)), some (vI ((b + 1 : Nat) : Int)), none, none, none] [] S J Q)) ((-2147483648 ≤ ((b : Nat) : Int) + 1 ∧ ((b : Nat) : Int) + 1 ≤ 2147483647) ∧ V w 2 mX5_pairsOf 21 [some (vR 313), some (vI ((c : Nat) : Int)), some (vI x), some (vI y), some (vI ((n : Nat) : Int)), some (vI ((a : Nat) : Int)), some (vI ((b + 1 : Nat) : Int)), none, none, none] [] S J Q))) ((-2147483648 ≤ ((b : Nat) : Int) + 1 ∧ ((b : Nat) : Int) + 1 ≤ 2147483647) ∧ V w 2 mX5_pairsOf 21 [some (vR 313), some (vI ((c : Nat) : Int)), some (vI x), some (vI y), some (vI ((n : Nat) : Int)), some (vI ((a : Nat) : Int)), some (vI ((b + 1 : Nat) : Int)), none, none, none] [] S J Q))) :
    V w 2 mX5_pairsOf 21 [some (vR 313), some (vI ((c : Nat) : Int)), some (vI x), some (vI y), some (vI ((n : Nat) : Int)), some (vI ((a : Nat) : Int)), some (vI ((b : Nat) : Int)), none, none, none] [] S J Q := by
  refine v_iload dX5_pairsOf_21 rfl ?_
  refine v_aload_n dX5_pairsOf_23 rfl ?_
  refine v_getI dX5_pairsOf_24 frX5_307_5 rfl rfl (L_313 hL).1 ?_
  obtain ⟨K1, K2⟩ := K
  refine v_icmp_ge 118 dX5_pairsOf_27 (by decide) (fun cQ => ?_) (fun cQ => ?_)
  · have K := K1 cQ
    obtain ⟨o1, K⟩ := K
    refine v_iinc dX5_pairsOf_118 rfl o1 ?_
    show V w 2 mX5_pairsOf 121 [some (vR 313), some (vI ((c : Nat) : Int)), some (vI x), some (vI y), some (vI ((n : Nat) : Int)), some (vI ((a + 1 : Nat) : Int)), some (vI ((b : Nat) : Int)), none, none, none] [] S J Q
    refine v_goto 6 dX5_pairsOf_121 (by decide) ?_
    exact v_forget (fg_some (fg_some (fg_some (fg_some (fg_some (fg_some (fg_none (fg_none (fg_none (fg_none fg_nil)))))))))) K
  · have K := K2 cQ
    refine v_aload_n dX5_pairsOf_30 rfl ?_
    refine v_iload_n dX5_pairsOf_31 rfl ?_
    refine v_iload dX5_pairsOf_32 rfl ?_
    refine v_iload dX5_pairsOf_34 rfl ?_
    refine v_callV (d' := 1) (rest := []) [vI ((c : Nat) : Int), vI ((a : Nat) : Int), vI ((b : Nat) : Int)] dX5_pairsOf_36 vrX5_323_5 (L_313 hL).1 rfl rfl (one_I (one_I (one_I one_nil))) (Nat.le_of_ble_eq_true rfl) (Nat.le_of_ble_eq_true rfl) (Nat.le_of_ble_eq_true rfl) ?_
    obtain ⟨o2, K⟩ := K
    obtain ⟨o3, K⟩ := K
    obtain ⟨o4, K⟩ := K
    obtain ⟨o5, K⟩ := K
    obtain ⟨o6, K⟩ := K
    obtain ⟨o7, K⟩ := K
    obtain ⟨K1, K2⟩ := K
    refine s_tellsBy hL ((c : Nat) : Int) ((a : Nat) : Int) ((b : Nat) : Int) o2 o3 o4 o5 o6 o7 (fun cQ => ?_) (fun cQ => ?_)
    · have K := K1 cQ
      show V w 2 mX5_pairsOf 39 [some (vR 313), some (vI ((c : Nat) : Int)), some (vI x), some (vI y), some (vI ((n : Nat) : Int)), some (vI ((a : Nat) : Int)), some (vI ((b : Nat) : Int)), none, none, none] [vI 1] S J Q
      refine v_if_ne 45 dX5_pairsOf_39 (by decide) (fun _ => ?_) (fun cQ => absurd cQ (by decide))
      refine v_aload_n dX5_pairsOf_45 rfl ?_
      refine v_iload dX5_pairsOf_46 rfl ?_
      refine v_iload dX5_pairsOf_48 rfl ?_
      refine v_callV (d' := 0) (rest := []) [vI ((a : Nat) : Int), vI ((b : Nat) : Int)] dX5_pairsOf_50 vrX5_320_5 (L_313 hL).1 rfl rfl (one_I (one_I one_nil)) (Nat.le_of_ble_eq_true rfl) (Nat.le_of_ble_eq_true rfl) (Nat.le_of_ble_eq_true rfl) ?_
      obtain ⟨o8, K⟩ := K
      obtain ⟨o9, K⟩ := K
      obtain ⟨o10, K⟩ := K
      obtain ⟨o11, K⟩ := K
      refine s_unlikeAt hL ((a : Nat) : Int) ((b : Nat) : Int) o8 o9 o10 o11 ?_
      show V w 2 mX5_pairsOf 53 [some (vR 313), some (vI ((c : Nat) : Int)), some (vI x), some (vI y), some (vI ((n : Nat) : Int)), some (vI ((a : Nat) : Int)), some (vI ((b : Nat) : Int)), none, none, none] [vI (unl (wrow J ((a : Nat) : Int).toNat) (wrow J ((b : Nat) : Int).toNat))] S J Q
      refine v_istore dX5_pairsOf_53 (Nat.le_of_ble_eq_true rfl) ?_
      show V w 2 mX5_pairsOf 55 [some (vR 313), some (vI ((c : Nat) : Int)), some (vI x), some (vI y), some (vI ((n : Nat) : Int)), some (vI ((a : Nat) : Int)), some (vI ((b : Nat) : Int)), some (vI (unl (wrow J ((a : Nat) : Int).toNat) (wrow J ((b : Nat) : Int).toNat))), none, none] [] S J Q
      refine v_aload_n dX5_pairsOf_55 rfl ?_
      refine v_getR dX5_pairsOf_56 frX5_97_5 rfl (L_313 hL).1 (LR_313_41 hL) (Or.inl rfl) ?_
      refine v_bipush dX5_pairsOf_59 (by decide) (in_lit (by decide)) ?_
      refine v_iload dX5_pairsOf_61 rfl ?_
      obtain ⟨o12, K⟩ := K
      refine v_imul dX5_pairsOf_63 o12 ?_
      show V w 2 mX5_pairsOf 64 [some (vR 313), some (vI ((c : Nat) : Int)), some (vI x), some (vI y), some (vI ((n : Nat) : Int)), some (vI ((a : Nat) : Int)), some (vI ((b : Nat) : Int)), some (vI (unl (wrow J ((a : Nat) : Int).toNat) (wrow J ((b : Nat) : Int).toNat))), none, none] [vI ((6 * a : Nat) : Int), vR 340] S J Q
      refine v_iload dX5_pairsOf_64 rfl ?_
      obtain ⟨o13, K⟩ := K
      refine v_iadd dX5_pairsOf_66 o13 ?_
      obtain ⟨o14, K⟩ := K
      obtain ⟨o15, K⟩ := K
      refine ld_340 dX5_pairsOf_67 hL o14 o15 ?_
      refine v_istore dX5_pairsOf_68 (Nat.le_of_ble_eq_true rfl) ?_
      show V w 2 mX5_pairsOf 70 [some (vR 313), some (vI ((c : Nat) : Int)), some (vI x), some (vI y), some (vI ((n : Nat) : Int)), some (vI ((a : Nat) : Int)), some (vI ((b : Nat) : Int)), some (vI (unl (wrow J ((a : Nat) : Int).toNat) (wrow J ((b : Nat) : Int).toNat))), some (vI (J 340 (((6 * a : Nat) : Int) + (unl (wrow J ((a : Nat) : Int).toNat) (wrow J ((b : Nat) : Int).toNat))).toNat)), none] [] S J Q
      refine v_aload_n dX5_pairsOf_70 rfl ?_
      refine v_getR dX5_pairsOf_71 frX5_97_5 rfl (L_313 hL).1 (LR_313_41 hL) (Or.inl rfl) ?_
      refine v_bipush dX5_pairsOf_74 (by decide) (in_lit (by decide)) ?_
      refine v_iload dX5_pairsOf_76 rfl ?_
      obtain ⟨o16, K⟩ := K
      refine v_imul dX5_pairsOf_78 o16 ?_
      show V w 2 mX5_pairsOf 79 [some (vR 313), some (vI ((c : Nat) : Int)), some (vI x), some (vI y), some (vI ((n : Nat) : Int)), some (vI ((a : Nat) : Int)), some (vI ((b : Nat) : Int)), some (vI (unl (wrow J ((a : Nat) : Int).toNat) (wrow J ((b : Nat) : Int).toNat))), some (vI (J 340 (((6 * a : Nat) : Int) + (unl (wrow J ((a : Nat) : Int).toNat) (wrow J ((b : Nat) : Int).toNat))).toNat)), none] [vI ((6 * b : Nat) : Int), vR 340] S J Q
      refine v_iload dX5_pairsOf_79 rfl ?_
      obtain ⟨o17, K⟩ := K
      refine v_iadd dX5_pairsOf_81 o17 ?_
      obtain ⟨o18, K⟩ := K
      obtain ⟨o19, K⟩ := K
      refine ld_340 dX5_pairsOf_82 hL o18 o19 ?_
      refine v_istore dX5_pairsOf_83 (Nat.le_of_ble_eq_true rfl) ?_
      show V w 2 mX5_pairsOf 85 [some (vR 313), some (vI ((c : Nat) : Int)), some (vI x), some (vI y), some (vI ((n : Nat) : Int)), some (vI ((a : Nat) : Int)), some (vI ((b : Nat) : Int)), some (vI (unl (wrow J ((a : Nat) : Int).toNat) (wrow J ((b : Nat) : Int).toNat))), some (vI (J 340 (((6 * a : Nat) : Int) + (unl (wrow J ((a : Nat) : Int).toNat) (wrow J ((b : Nat) : Int).toNat))).toNat)), some (vI (J 340 (((6 * b : Nat) : Int) + (unl (wrow J ((a : Nat) : Int).toNat) (wrow J ((b : Nat) : Int).toNat))).toNat))] [] S J Q
      refine v_iload dX5_pairsOf_85 rfl ?_
      refine v_iload_n dX5_pairsOf_87 rfl ?_
      obtain ⟨K1, K2⟩ := K
      refine v_icmp_ne 97 dX5_pairsOf_88 (by decide) (fun cQ => ?_) (fun cQ => ?_)
      · have K := K2 cQ
        refine v_iload dX5_pairsOf_97 rfl ?_
        refine v_iload_n dX5_pairsOf_99 rfl ?_
        obtain ⟨K1, K2⟩ := K
        refine v_icmp_ne 112 dX5_pairsOf_100 (by decide) (fun cQ => ?_) (fun cQ => ?_)
        · have K := K2 cQ
          obtain ⟨o20, K⟩ := K
          refine v_iinc dX5_pairsOf_112 rfl o20 ?_
          show V w 2 mX5_pairsOf 115 [some (vR 313), some (vI ((c : Nat) : Int)), some (vI x), some (vI y), some (vI ((n : Nat) : Int)), some (vI ((a : Nat) : Int)), some (vI ((b + 1 : Nat) : Int)), some (vI (unl (wrow J ((a : Nat) : Int).toNat) (wrow J ((b : Nat) : Int).toNat))), some (vI (J 340 (((6 * a : Nat) : Int) + (unl (wrow J ((a : Nat) : Int).toNat) (wrow J ((b : Nat) : Int).toNat))).toNat)), some (vI (J 340 (((6 * b : Nat) : Int) + (unl (wrow J ((a : Nat) : Int).toNat) (wrow J ((b : Nat) : Int).toNat))).toNat))] [] S J Q
          refine v_goto 21 dX5_pairsOf_115 (by decide) ?_
          exact v_forget (fg_some (fg_some (fg_some (fg_some (fg_some (fg_some (fg_some (fg_none (fg_none (fg_none fg_nil)))))))))) K
        · have K := K1 cQ
          refine v_iload dX5_pairsOf_103 rfl ?_
          refine v_iload_n dX5_pairsOf_105 rfl ?_
          obtain ⟨K1, K2⟩ := K
          refine v_icmp_ne 112 dX5_pairsOf_106 (by decide) (fun cQ => ?_) (fun cQ => ?_)
          · have K := K2 cQ
            obtain ⟨o21, K⟩ := K
            refine v_iinc dX5_pairsOf_112 rfl o21 ?_
            show V w 2 mX5_pairsOf 115 [some (vR 313), some (vI ((c : Nat) : Int)), some (vI x), some (vI y), some (vI ((n : Nat) : Int)), some (vI ((a : Nat) : Int)), some (vI ((b + 1 : Nat) : Int)), some (vI (unl (wrow J ((a : Nat) : Int).toNat) (wrow J ((b : Nat) : Int).toNat))), some (vI (J 340 (((6 * a : Nat) : Int) + (unl (wrow J ((a : Nat) : Int).toNat) (wrow J ((b : Nat) : Int).toNat))).toNat)), some (vI (J 340 (((6 * b : Nat) : Int) + (unl (wrow J ((a : Nat) : Int).toNat) (wrow J ((b : Nat) : Int).toNat))).toNat))] [] S J Q
            refine v_goto 21 dX5_pairsOf_115 (by decide) ?_
            exact v_forget (fg_some (fg_some (fg_some (fg_some (fg_some (fg_some (fg_some (fg_none (fg_none (fg_none fg_nil)))))))))) K
          · have K := K1 cQ
            obtain ⟨o22, K⟩ := K
            refine v_iinc dX5_pairsOf_109 rfl o22 ?_
            show V w 2 mX5_pairsOf 112 [some (vR 313), some (vI ((c : Nat) : Int)), some (vI x), some (vI y), some (vI ((n + 1 : Nat) : Int)), some (vI ((a : Nat) : Int)), some (vI ((b : Nat) : Int)), some (vI (unl (wrow J ((a : Nat) : Int).toNat) (wrow J ((b : Nat) : Int).toNat))), some (vI (J 340 (((6 * a : Nat) : Int) + (unl (wrow J ((a : Nat) : Int).toNat) (wrow J ((b : Nat) : Int).toNat))).toNat)), some (vI (J 340 (((6 * b : Nat) : Int) + (unl (wrow J ((a : Nat) : Int).toNat) (wrow J ((b : Nat) : Int).toNat))).toNat))] [] S J Q
            obtain ⟨o23, K⟩ := K
            refine v_iinc dX5_pairsOf_112 rfl o23 ?_
            show V w 2 mX5_pairsOf 115 [some (vR 313), some (vI ((c : Nat) : Int)), some (vI x), some (vI y), some (vI ((n + 1 : Nat) : Int)), some (vI ((a : Nat) : Int)), some (vI ((b + 1 : Nat) : Int)), some (vI (unl (wrow J ((a : Nat) : Int).toNat) (wrow J ((b : Nat) : Int).toNat))), some (vI (J 340 (((6 * a : Nat) : Int) + (unl (wrow J ((a : Nat) : Int).toNat) (wrow J ((b : Nat) : Int).toNat))).toNat)), some (vI (J 340 (((6 * b : Nat) : Int) + (unl (wrow J ((a : Nat) : Int).toNat) (wrow J ((b : Nat) : Int).toNat))).toNat))] [] S J Q
            refine v_goto 21 dX5_pairsOf_115 (by decide) ?_
            exact v_forget (fg_some (fg_some (fg_some (fg_some (fg_some (fg_some (fg_some (fg_none (fg_none (fg_none fg_nil)))))))))) K
      · have K := K1 cQ
        refine v_iload dX5_pairsOf_91 rfl ?_
        refine v_iload_n dX5_pairsOf_93 rfl ?_
        obtain ⟨K1, K2⟩ := K
        refine v_icmp_eq 109 dX5_pairsOf_94 (by decide) (fun cQ => ?_) (fun cQ => ?_)
        · have K := K1 cQ
          obtain ⟨o24, K⟩ := K
          refine v_iinc dX5_pairsOf_109 rfl o24 ?_
          show V w 2 mX5_pairsOf 112 [some (vR 313), some (vI ((c : Nat) : Int)), some (vI x), some (vI y), some (vI ((n + 1 : Nat) : Int)), some (vI ((a : Nat) : Int)), some (vI ((b : Nat) : Int)), some (vI (unl (wrow J ((a : Nat) : Int).toNat) (wrow J ((b : Nat) : Int).toNat))), some (vI (J 340 (((6 * a : Nat) : Int) + (unl (wrow J ((a : Nat) : Int).toNat) (wrow J ((b : Nat) : Int).toNat))).toNat)), some (vI (J 340 (((6 * b : Nat) : Int) + (unl (wrow J ((a : Nat) : Int).toNat) (wrow J ((b : Nat) : Int).toNat))).toNat))] [] S J Q
          obtain ⟨o25, K⟩ := K
          refine v_iinc dX5_pairsOf_112 rfl o25 ?_
          show V w 2 mX5_pairsOf 115 [some (vR 313), some (vI ((c : Nat) : Int)), some (vI x), some (vI y), some (vI ((n + 1 : Nat) : Int)), some (vI ((a : Nat) : Int)), some (vI ((b + 1 : Nat) : Int)), some (vI (unl (wrow J ((a : Nat) : Int).toNat) (wrow J ((b : Nat) : Int).toNat))), some (vI (J 340 (((6 * a : Nat) : Int) + (unl (wrow J ((a : Nat) : Int).toNat) (wrow J ((b : Nat) : Int).toNat))).toNat)), some (vI (J 340 (((6 * b : Nat) : Int) + (unl (wrow J ((a : Nat) : Int).toNat) (wrow J ((b : Nat) : Int).toNat))).toNat))] [] S J Q
          refine v_goto 21 dX5_pairsOf_115 (by decide) ?_
          exact v_forget (fg_some (fg_some (fg_some (fg_some (fg_some (fg_some (fg_some (fg_none (fg_none (fg_none fg_nil)))))))))) K
        · have K := K2 cQ
          refine v_iload dX5_pairsOf_97 rfl ?_
          refine v_iload_n dX5_pairsOf_99 rfl ?_
          obtain ⟨K1, K2⟩ := K
          refine v_icmp_ne 112 dX5_pairsOf_100 (by decide) (fun cQ => ?_) (fun cQ => ?_)
          · have K := K2 cQ
            obtain ⟨o26, K⟩ := K
            refine v_iinc dX5_pairsOf_112 rfl o26 ?_
            show V w 2 mX5_pairsOf 115 [some (vR 313), some (vI ((c : Nat) : Int)), some (vI x), some (vI y), some (vI ((n : Nat) : Int)), some (vI ((a : Nat) : Int)), some (vI ((b + 1 : Nat) : Int)), some (vI (unl (wrow J ((a : Nat) : Int).toNat) (wrow J ((b : Nat) : Int).toNat))), some (vI (J 340 (((6 * a : Nat) : Int) + (unl (wrow J ((a : Nat) : Int).toNat) (wrow J ((b : Nat) : Int).toNat))).toNat)), some (vI (J 340 (((6 * b : Nat) : Int) + (unl (wrow J ((a : Nat) : Int).toNat) (wrow J ((b : Nat) : Int).toNat))).toNat))] [] S J Q
            refine v_goto 21 dX5_pairsOf_115 (by decide) ?_
            exact v_forget (fg_some (fg_some (fg_some (fg_some (fg_some (fg_some (fg_some (fg_none (fg_none (fg_none fg_nil)))))))))) K
          · have K := K1 cQ
            refine v_iload dX5_pairsOf_103 rfl ?_
            refine v_iload_n dX5_pairsOf_105 rfl ?_
            obtain ⟨K1, K2⟩ := K
            refine v_icmp_ne 112 dX5_pairsOf_106 (by decide) (fun cQ => ?_) (fun cQ => ?_)
            · have K := K2 cQ
              obtain ⟨o27, K⟩ := K
              refine v_iinc dX5_pairsOf_112 rfl o27 ?_
              show V w 2 mX5_pairsOf 115 [some (vR 313), some (vI ((c : Nat) : Int)), some (vI x), some (vI y), some (vI ((n : Nat) : Int)), some (vI ((a : Nat) : Int)), some (vI ((b + 1 : Nat) : Int)), some (vI (unl (wrow J ((a : Nat) : Int).toNat) (wrow J ((b : Nat) : Int).toNat))), some (vI (J 340 (((6 * a : Nat) : Int) + (unl (wrow J ((a : Nat) : Int).toNat) (wrow J ((b : Nat) : Int).toNat))).toNat)), some (vI (J 340 (((6 * b : Nat) : Int) + (unl (wrow J ((a : Nat) : Int).toNat) (wrow J ((b : Nat) : Int).toNat))).toNat))] [] S J Q
              refine v_goto 21 dX5_pairsOf_115 (by decide) ?_
              exact v_forget (fg_some (fg_some (fg_some (fg_some (fg_some (fg_some (fg_some (fg_none (fg_none (fg_none fg_nil)))))))))) K
            · have K := K1 cQ
              obtain ⟨o28, K⟩ := K
              refine v_iinc dX5_pairsOf_109 rfl o28 ?_
              show V w 2 mX5_pairsOf 112 [some (vR 313), some (vI ((c : Nat) : Int)), some (vI x), some (vI y), some (vI ((n + 1 : Nat) : Int)), some (vI ((a : Nat) : Int)), some (vI ((b : Nat) : Int)), some (vI (unl (wrow J ((a : Nat) : Int).toNat) (wrow J ((b : Nat) : Int).toNat))), some (vI (J 340 (((6 * a : Nat) : Int) + (unl (wrow J ((a : Nat) : Int).toNat) (wrow J ((b : Nat) : Int).toNat))).toNat)), some (vI (J 340 (((6 * b : Nat) : Int) + (unl (wrow J ((a : Nat) : Int).toNat) (wrow J ((b : Nat) : Int).toNat))).toNat))] [] S J Q
              obtain ⟨o29, K⟩ := K
              refine v_iinc dX5_pairsOf_112 rfl o29 ?_
              show V w 2 mX5_pairsOf 115 [some (vR 313), some (vI ((c : Nat) : Int)), some (vI x), some (vI y), some (vI ((n + 1 : Nat) : Int)), some (vI ((a : Nat) : Int)), some (vI ((b + 1 : Nat) : Int)), some (vI (unl (wrow J ((a : Nat) : Int).toNat) (wrow J ((b : Nat) : Int).toNat))), some (vI (J 340 (((6 * a : Nat) : Int) + (unl (wrow J ((a : Nat) : Int).toNat) (wrow J ((b : Nat) : Int).toNat))).toNat)), some (vI (J 340 (((6 * b : Nat) : Int) + (unl (wrow J ((a : Nat) : Int).toNat) (wrow J ((b : Nat) : Int).toNat))).toNat))] [] S J Q
              refine v_goto 21 dX5_pairsOf_115 (by decide) ?_
              exact v_forget (fg_some (fg_some (fg_some (fg_some (fg_some (fg_some (fg_some (fg_none (fg_none (fg_none fg_nil)))))))))) K
    · have K := K2 cQ
      show V w 2 mX5_pairsOf 39 [some (vR 313), some (vI ((c : Nat) : Int)), some (vI x), some (vI y), some (vI ((n : Nat) : Int)), some (vI ((a : Nat) : Int)), some (vI ((b : Nat) : Int)), none, none, none] [vI 0] S J Q
      refine v_if_ne 45 dX5_pairsOf_39 (by decide) (fun cQ => absurd cQ (by decide)) (fun _ => ?_)
      refine v_goto 112 dX5_pairsOf_42 (by decide) ?_
      obtain ⟨o30, K⟩ := K
      refine v_iinc dX5_pairsOf_112 rfl o30 ?_
      show V w 2 mX5_pairsOf 115 [some (vR 313), some (vI ((c : Nat) : Int)), some (vI x), some (vI y), some (vI ((n : Nat) : Int)), some (vI ((a : Nat) : Int)), some (vI ((b + 1 : Nat) : Int)), none, none, none] [] S J Q
      refine v_goto 21 dX5_pairsOf_115 (by decide) ?_
      exact K

theorem s_pairsOf {w : Wd} {S : Sh} {J : Jm} {Q : Out → Sh → Jm → Prop} (hL : Lay S) (x1 x y : Int) (L : List (List Int)) (hc : 0 ≤ x1 ∧ x1 < 132) (hw : 0 ≤ J 322 x1.toNat ∧ J 322 x1.toNat ≤ 7) (hW : PWh J L) (hlen : L.length ≤ 192)
    (K : Q (.inl (some (vI ((cntP x y (tpOf J x1.toNat L) : Nat) : Int)))) S J) : V w 2 mX5_pairsOf 0 (ent mX5_pairsOf [vR 313, vI x1, vI x, vI y]) [] S J Q := by
  obtain ⟨c, rfl⟩ : ∃ c : Nat, x1 = c := ⟨x1.toNat, by omega⟩
  simp only [Int.toNat_natCast] at *
  rw [← hW.tp c] at K
  obtain ⟨N, hN⟩ : ∃ N : Nat, L.length = N := ⟨_, rfl⟩
  rw [hN] at K hlen
  have hwn : J 313 39 = N := by rw [hW.1, hN]
  have hz : ∀ a, a < N → 0 ≤ J 339 a ∧ J 339 a ≤ 6 := fun a ha => (hW.2 a (by omega)).1
  refine gX5_pairsOf_0 hL c x y ?_
  have outer : ∀ (n a : Nat), a + n = N → V w 2 mX5_pairsOf 6 [some (vR 313), some (vI (c : Int)), some (vI x), some (vI y), some (vI ((cntP x y (tpO J c (wrow J) N a) : Nat) : Int)), some (vI (a : Int)), none, none, none, none] [] S J Q := by
    intro n
    induction n with
    | zero =>
      intro a ha
      obtain rfl : a = N := by omega
      exact gX5_pairsOf_6 hL c x y _ a (br_y (by omega) K)
    | succ n ih =>
      intro a ha
      refine gX5_pairsOf_6 hL c x y _ a (br_n (by omega) ⟨by omega, ?_⟩)
      have hb1 := cntP_le x y (tpO J c (wrow J) N a)
      have hb2 := tpO_len J c (wrow J) N a
      have hb3 : a * N ≤ 192 * 192 := Nat.mul_le_mul (by omega) hlen
      have inner : ∀ (k m : Nat), a + 1 + m + k = N → V w 2 mX5_pairsOf 21 [some (vR 313), some (vI (c : Int)), some (vI x), some (vI y), some (vI ((cntP x y (tpO J c (wrow J) N a) + cntP x y (tpI J c (wrow J) a m) : Nat) : Int)), some (vI (a : Int)), some (vI ((a + 1 + m : Nat) : Int)), none, none, none] [] S J Q := by
        intro k
        induction k with
        | zero =>
          intro m hm
          refine gX5_pairsOf_21 hL c x y _ a (a + 1 + m) (br_y (by omega) ⟨by omega, ?_⟩)
          have := ih (a + 1) (by omega)
          unfold tpO at this
          rw [cntP_app, show N - (a + 1) = m by omega] at this
          exact this
        | succ k ihk =>
          intro m hm
          have h1 := hz a (by omega)
          have h2 := hz (a + 1 + m) (by omega)
          have hb4 := cntP_le x y (tpI J c (wrow J) a m)
          have hb5 := tpI_len J c (wrow J) a m
          have ihm := ihk (m + 1) (by omega)
          unfold tpI at ihm
          rw [cntP_app] at ihm
          refine gX5_pairsOf_21 hL c x y _ a (a + 1 + m) (br_n (by omega) ⟨by omega, by omega, by omega, h1, h2, hw, ?_⟩)
          show Br (tls J c (wrow J a) (wrow J (a + 1 + m))) _ _
          refine br_i (fun ht => ⟨by omega, by omega, h1, h2, ?_⟩) (fun ht => ⟨by omega, ?_⟩)
          · obtain ⟨u, hu, hlt, hlt2⟩ : ∃ u : Nat, unl (wrow J a) (wrow J (a + 1 + m)) = u ∧ (u : Int) < J 339 a ∧ (u : Int) < J 339 (a + 1 + m) := by
              rcases unl_spec (wrow J a) (wrow J (a + 1 + m)) with q | ⟨e, i, e1, e2, -⟩
              · exact absurd q ht.1
              · rw [wrow_len, wrow_len] at e
                rw [wrow_len] at e2
                exact ⟨i, e1, by omega, by omega⟩
            have ep : tp1 J c (wrow J) a (a + 1 + m) = [(J 340 (6 * a + u), J 340 (6 * (a + 1 + m) + u))] := by
              unfold tp1
              rw [if_pos ht, hu, Int.toNat_natCast, wrow_get hlt, wrow_get hlt2]
            rw [ep, cntP_1] at ihm
            simp only [Int.toNat_natCast, hu]
            have e1 : (((6 * a : Nat) : Int) + (u : Int)).toNat = 6 * a + u := by omega
            have e2 : (((6 * (a + 1 + m) : Nat) : Int) + (u : Int)).toNat = 6 * (a + 1 + m) + u := by omega
            repeat' (first | (refine And.intro ?_ ?_; omega))
            rw [e1, e2]
            repeat' (first | refine br_i (fun hb => ?_) (fun hb => ?_) | (refine And.intro ?_ ?_; omega))
            all_goals first
              | (rw [if_pos (by omega), ← Nat.add_assoc] at ihm; exact ihm)
              | (rw [if_neg (by omega), Nat.add_zero] at ihm; exact ihm)
          · rw [show tp1 J c (wrow J) a (a + 1 + m) = [] from if_neg ht] at ihm
            exact ihm
      exact inner (N - (a + 1)) 0 (by omega)
  exact outer N 0 (by omega)
