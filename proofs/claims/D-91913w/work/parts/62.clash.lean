/-! the model: clash -/
set_option maxRecDepth 100000

def PFar (J : Jm) (o a : Int) (J' : Jm) : Prop := (∀ b k, b ≠ 345 → J' b k = J b k) ∧ FarOk (lkE J o.toNat) a.toNat (J' 345)
theorem s_findFarI {w : Wd} {S : Sh} {J : Jm} {Q : Out → Sh → Jm → Prop} (hL : Lay S) (o a : Int) (ho : 0 ≤ o ∧ o < 2) (ha : 0 ≤ a ∧ a < 40) (h01 : ∀ p : Nat, p < 3200 → J 341 p = 0 ∨ J 341 p = 1) (K : ∀ J', PFar J o a J' → Q (.inl none) S J') : V w 0 mX5_findFar 0 (ent mX5_findFar [vR 313, vI o, vI a]) [] S J Q := by
  obtain ⟨o, rfl⟩ : ∃ n : Nat, o = n := ⟨o.toNat, by omega⟩
  obtain ⟨a, rfl⟩ : ∃ n : Nat, a = n := ⟨a.toNat, by omega⟩
  exact s_findFar hL o a (by omega) (by omega) h01 (fun J' h1 h2 => K J' ⟨h1, h2⟩)
theorem gX5_clashes_0 {w : Wd} {S : Sh} {J : Jm} {Q : Out → Sh → Jm → Prop} (hL : Lay S) (a : Int) (b : Int) (kind : Int) (its : Int) (sort : Int)
    (K : Br (its < J 313 50) (Q (.inl none) S (up (up (up (up (up J 313 47 a) 313 48 b) 313 49 kind) 313 50 its) 313 51 sort)) (Q (.inl none) S J)) :
    V w 0 mX5_clashes 0 (ent mX5_clashes [vR 313, vI a, vI b, vI kind, vI its, vI sort]) [] S J Q := by
  show V w 0 mX5_clashes 0 [some (vR 313), some (vI a), some (vI b), some (vI kind), some (vI its), some (vI sort)] [] S J Q
  refine v_iload dX5_clashes_0 rfl ?_
  refine v_aload_n dX5_clashes_2 rfl ?_
  refine v_getI dX5_clashes_3 frX5_352_5 rfl rfl (L_313 hL).1 ?_
  obtain ⟨K1, K2⟩ := K
  refine v_icmp_lt 10 dX5_clashes_6 (by decide) (fun c1 => ?_) (fun c1 => ?_)
  · have K := K1 c1
    refine v_aload_n dX5_clashes_10 rfl ?_
    refine v_iload_n dX5_clashes_11 rfl ?_
    refine v_putI dX5_clashes_12 frX5_359_5 (fun _ _ _ h => by cases h; exact Or.inl rfl) rfl rfl zfit_int (L_313 hL).1 ?_
    show V w 0 mX5_clashes 15 [some (vR 313), some (vI a), some (vI b), some (vI kind), some (vI its), some (vI sort)] [] S (up J 313 47 a) Q
    refine v_aload_n dX5_clashes_15 rfl ?_
    refine v_iload_n dX5_clashes_16 rfl ?_
    refine v_putI dX5_clashes_17 frX5_362_5 (fun _ _ _ h => by cases h; exact Or.inl rfl) rfl rfl zfit_int (L_313 hL).1 ?_
    show V w 0 mX5_clashes 20 [some (vR 313), some (vI a), some (vI b), some (vI kind), some (vI its), some (vI sort)] [] S (up (up J 313 47 a) 313 48 b) Q
    refine v_aload_n dX5_clashes_20 rfl ?_
    refine v_iload_n dX5_clashes_21 rfl ?_
    refine v_putI dX5_clashes_22 frX5_365_5 (fun _ _ _ h => by cases h; exact Or.inl rfl) rfl rfl zfit_int (L_313 hL).1 ?_
    show V w 0 mX5_clashes 25 [some (vR 313), some (vI a), some (vI b), some (vI kind), some (vI its), some (vI sort)] [] S (up (up (up J 313 47 a) 313 48 b) 313 49 kind) Q
    refine v_aload_n dX5_clashes_25 rfl ?_
    refine v_iload dX5_clashes_26 rfl ?_
    refine v_putI dX5_clashes_28 frX5_352_5 (fun _ _ _ h => by cases h; exact Or.inl rfl) rfl rfl zfit_int (L_313 hL).1 ?_
    show V w 0 mX5_clashes 31 [some (vR 313), some (vI a), some (vI b), some (vI kind), some (vI its), some (vI sort)] [] S (up (up (up (up J 313 47 a) 313 48 b) 313 49 kind) 313 50 its) Q
    refine v_aload_n dX5_clashes_31 rfl ?_
    refine v_iload dX5_clashes_32 rfl ?_
    refine v_putI dX5_clashes_34 frX5_368_5 (fun _ _ _ h => by cases h; exact Or.inl rfl) rfl rfl zfit_int (L_313 hL).1 ?_
    show V w 0 mX5_clashes 37 [some (vR 313), some (vI a), some (vI b), some (vI kind), some (vI its), some (vI sort)] [] S (up (up (up (up (up J 313 47 a) 313 48 b) 313 49 kind) 313 50 its) 313 51 sort) Q
    exact v_vret dX5_clashes_37 rfl K
  · have K := K2 c1
    exact v_vret dX5_clashes_9 rfl K

def clU (J : Jm) (a b kind its sort : Int) : Jm := if its < J 313 50 then up (up (up (up (up J 313 47 a) 313 48 b) 313 49 kind) 313 50 its) 313 51 sort else J
theorem s_clashes {w : Wd} {S : Sh} {J : Jm} {Q : Out → Sh → Jm → Prop} (hL : Lay S) (a b kind its sort : Int) (K : ∀ J', J' = clU J a b kind its sort → Q (.inl none) S J') : V w 0 mX5_clashes 0 (ent mX5_clashes [vR 313, vI a, vI b, vI kind, vI its, vI sort]) [] S J Q := by
  have fin := K _ rfl
  unfold clU at fin
  refine gX5_clashes_0 hL a b kind its sort (br_i (fun c => ?_) (fun c => ?_))
  · rw [if_pos c] at fin; exact fin
  · rw [if_neg c] at fin; exact fin
theorem gX5_findClash_0 {w : Wd} {S : Sh} {J : Jm} {Q : Out → Sh → Jm → Prop} (hL : Lay S) (known : Int)
    (K : (MHeld J) ∧ (MTab J) ∧ (MTxt J) ∧ (MShr J) ∧ (∀ (J1 : Jm), PLk J known J1 → V w 4 mX5_findClash 7 [some (vR 313), none, some (vI 0), none, none, none, none] [] S J1 Q)) :
    V w 4 mX5_findClash 0 (ent mX5_findClash [vR 313, vI known]) [] S J Q := by
  show V w 4 mX5_findClash 0 [some (vR 313), some (vI known), none, none, none, none, none] [] S J Q
  refine v_aload_n dX5_findClash_0 rfl ?_
  refine v_iload_n dX5_findClash_1 rfl ?_
  refine v_callV (d' := 3) (rest := []) [vI known] dX5_findClash_2 vrX5_345_5 (L_313 hL).1 rfl rfl (one_I one_nil) (Nat.le_of_ble_eq_true rfl) (Nat.le_of_ble_eq_true rfl) (Nat.le_of_ble_eq_true rfl) ?_
  obtain ⟨o1, K⟩ := K
  obtain ⟨o2, K⟩ := K
  obtain ⟨o3, K⟩ := K
  obtain ⟨o4, K⟩ := K
  refine s_findLinks hL known o1 o2 o3 o4 (fun J1 hp => ?_)
  have K := K J1 hp
  show V w 4 mX5_findClash 5 [some (vR 313), some (vI known), none, none, none, none, none] [] S J1 Q
  refine v_iconst dX5_findClash_5 (in_lit (by decide)) ?_
  refine v_istore_n dX5_findClash_6 (Nat.le_of_ble_eq_true rfl) ?_
  show V w 4 mX5_findClash 7 [some (vR 313), some (vI known), some (vI 0), none, none, none, none] [] S J1 Q
  exact v_forget (fg_some (fg_none (fg_some (fg_none (fg_none (fg_none (fg_none fg_nil))))))) K
theorem gX5_findClash_7 {w : Wd} {S : Sh} {J : Jm} {Q : Out → Sh → Jm → Prop} (hL : Lay S) (o : Nat)
    (K : Br (2 ≤ ((o : Nat) : Int)) (V w 4 mX5_findClash 87 [some (vR 313), none, some (vI 0), none, none, none, none] [] S (up J 313 50 1000000) Q) (V w 4 mX5_findClash 14 [some (vR 313), none, some (vI ((o : Nat) : Int)), some (vI 0), none, none, none] [] S J Q)) :
    V w 4 mX5_findClash 7 [some (vR 313), none, some (vI ((o : Nat) : Int)), none, none, none, none] [] S J Q := by
  refine v_iload_n dX5_findClash_7 rfl ?_
  refine v_iconst dX5_findClash_8 (in_lit (by decide)) ?_
  obtain ⟨K1, K2⟩ := K
  refine v_icmp_ge 79 dX5_findClash_9 (by decide) (fun c1 => ?_) (fun c1 => ?_)
  · have K := K1 c1
    refine v_aload_n dX5_findClash_79 rfl ?_
    refine v_ldc dX5_findClash_80 q1896 (z := 1000000) (by decide) ?_
    refine v_putI dX5_findClash_82 frX5_352_5 (fun _ _ _ h => by cases h; exact Or.inl rfl) rfl rfl zfit_int (L_313 hL).1 ?_
    show V w 4 mX5_findClash 85 [some (vR 313), none, some (vI ((o : Nat) : Int)), none, none, none, none] [] S (up J 313 50 1000000) Q
    refine v_iconst dX5_findClash_85 (in_lit (by decide)) ?_
    refine v_istore_n dX5_findClash_86 (Nat.le_of_ble_eq_true rfl) ?_
    show V w 4 mX5_findClash 87 [some (vR 313), none, some (vI 0), none, none, none, none] [] S (up J 313 50 1000000) Q
    exact K
  · have K := K2 c1
    refine v_iconst dX5_findClash_12 (in_lit (by decide)) ?_
    refine v_istore_n dX5_findClash_13 (Nat.le_of_ble_eq_true rfl) ?_
    show V w 4 mX5_findClash 14 [some (vR 313), none, some (vI ((o : Nat) : Int)), some (vI 0), none, none, none] [] S J Q
    exact K
theorem gX5_findClash_14 {w : Wd} {S : Sh} {J : Jm} {Q : Out → Sh → Jm → Prop} (hL : Lay S) (o : Nat) (a : Nat)
    (K : Br (40 ≤ ((a : Nat) : Int)) ((-2147483648 ≤ ((o : Nat) : Int) + 1 ∧ ((o : Nat) : Int) + 1 ≤ 2147483647) ∧ V w 4 mX5_findClash 7 [some (vR 313), none, some (vI ((o + 1 : Nat) : Int)), none, none, none, none] [] S J Q) ((0 ≤ ((o : Nat) : Int) ∧ ((o : Nat) : Int) < 2) ∧ (0 ≤ ((a : Nat) : Int) ∧ ((a : Nat) : Int) < 40) ∧ (∀ p : Nat, p < 3200 → J 341 p = 0 ∨ J 341 p = 1) ∧ (∀ (J1 : Jm), PFar J ((o : Nat) : Int) ((a : Nat) : Int) J1 → V w 4 mX5_findClash 29 [some (vR 313), none, some (vI ((o : Nat) : Int)), some (vI ((a : Nat) : Int)), some (vI 0), none, none] [] S J1 Q))) :
    V w 4 mX5_findClash 14 [some (vR 313), none, some (vI ((o : Nat) : Int)), some (vI ((a : Nat) : Int)), none, none, none] [] S J Q := by
  refine v_iload_n dX5_findClash_14 rfl ?_
  refine v_bipush dX5_findClash_15 (by decide) (in_lit (by decide)) ?_
  obtain ⟨K1, K2⟩ := K
  refine v_icmp_ge 73 dX5_findClash_17 (by decide) (fun c1 => ?_) (fun c1 => ?_)
  · have K := K1 c1
    obtain ⟨o1, K⟩ := K
    refine v_iinc dX5_findClash_73 rfl o1 ?_
    show V w 4 mX5_findClash 76 [some (vR 313), none, some (vI ((o + 1 : Nat) : Int)), some (vI ((a : Nat) : Int)), none, none, none] [] S J Q
    refine v_goto 7 dX5_findClash_76 (by decide) ?_
    exact v_forget (fg_some (fg_none (fg_some (fg_none (fg_none (fg_none (fg_none fg_nil))))))) K
  · have K := K2 c1
    refine v_aload_n dX5_findClash_20 rfl ?_
    refine v_iload_n dX5_findClash_21 rfl ?_
    refine v_iload_n dX5_findClash_22 rfl ?_
    refine v_callV (d' := 0) (rest := []) [vI ((o : Nat) : Int), vI ((a : Nat) : Int)] dX5_findClash_23 vrX5_348_5 (L_313 hL).1 rfl rfl (one_I (one_I one_nil)) (Nat.le_of_ble_eq_true rfl) (Nat.le_of_ble_eq_true rfl) (Nat.le_of_ble_eq_true rfl) ?_
    obtain ⟨o2, K⟩ := K
    obtain ⟨o3, K⟩ := K
    obtain ⟨o4, K⟩ := K
    refine s_findFarI hL ((o : Nat) : Int) ((a : Nat) : Int) o2 o3 o4 (fun J1 hp => ?_)
    have K := K J1 hp
    show V w 4 mX5_findClash 26 [some (vR 313), none, some (vI ((o : Nat) : Int)), some (vI ((a : Nat) : Int)), none, none, none] [] S J1 Q
    refine v_iconst dX5_findClash_26 (in_lit (by decide)) ?_
    refine v_istore dX5_findClash_27 (Nat.le_of_ble_eq_true rfl) ?_
    show V w 4 mX5_findClash 29 [some (vR 313), none, some (vI ((o : Nat) : Int)), some (vI ((a : Nat) : Int)), some (vI 0), none, none] [] S J1 Q
    exact K
theorem gX5_findClash_29 {w : Wd} {S : Sh} {J : Jm} {Q : Out → Sh → Jm → Prop} (hL : Lay S) (o : Nat) (a : Nat) (b : Nat)
    (K : Br (40 ≤ ((b : Nat) : Int)) ((-2147483648 ≤ ((a : Nat) : Int) + 1 ∧ ((a : Nat) : Int) + 1 ≤ 2147483647) ∧ V w 4 mX5_findClash 14 [some (vR 313), none, some (vI ((o : Nat) : Int)), some (vI ((a + 1 : Nat) : Int)), none, none, none] [] S J Q) ((-2147483648 ≤ 1600 * ((o : Nat) : Int) ∧ 1600 * ((o : Nat) : Int) ≤ 2147483647) ∧ (-2147483648 ≤ 40 * ((a : Nat) : Int) ∧ 40 * ((a : Nat) : Int) ≤ 2147483647) ∧ (-2147483648 ≤ ((1600 * o : Nat) : Int) + ((40 * a : Nat) : Int) ∧ ((1600 * o : Nat) : Int) + ((40 * a : Nat) : Int) ≤ 2147483647) ∧ (-2147483648 ≤ (((1600 * o) + (40 * a) : Nat) : Int) + ((b : Nat) : Int) ∧ (((1600 * o) + (40 * a) : Nat) : Int) + ((b : Nat) : Int) ≤ 2147483647) ∧ (((b : Nat) : Int) < 40) ∧ (((((1600 * o) + (40 * a)) + b : Nat) : Int) < 3200) ∧ (-2147483648 ≤ ((b : Nat) : Int) + 1 ∧ ((b : Nat) : Int) + 1 ≤ 2147483647) ∧ V w 4 mX5_findClash 29 [some (vR 313), none, some (vI ((o : Nat) : Int)), some (vI ((a : Nat) : Int)), some (vI ((b + 1 : Nat) : Int)), none, none] [] S (up J 346 (((1600 * o) + (40 * a)) + b) (J 345 b)) Q)) :
    V w 4 mX5_findClash 29 [some (vR 313), none, some (vI ((o : Nat) : Int)), some (vI ((a : Nat) : Int)), some (vI ((b : Nat) : Int)), none, none] [] S J Q := by
  refine v_iload dX5_findClash_29 rfl ?_
  refine v_bipush dX5_findClash_31 (by decide) (in_lit (by decide)) ?_
  obtain ⟨K1, K2⟩ := K
  refine v_icmp_ge 67 dX5_findClash_33 (by decide) (fun c1 => ?_) (fun c1 => ?_)
  · have K := K1 c1
    obtain ⟨o1, K⟩ := K
    refine v_iinc dX5_findClash_67 rfl o1 ?_
    show V w 4 mX5_findClash 70 [some (vR 313), none, some (vI ((o : Nat) : Int)), some (vI ((a + 1 : Nat) : Int)), some (vI ((b : Nat) : Int)), none, none] [] S J Q
    refine v_goto 14 dX5_findClash_70 (by decide) ?_
    exact v_forget (fg_some (fg_none (fg_some (fg_some (fg_none (fg_none (fg_none fg_nil))))))) K
  · have K := K2 c1
    refine v_aload_n dX5_findClash_36 rfl ?_
    refine v_getR dX5_findClash_37 frX5_115_5 rfl (L_313 hL).1 (LR_313_52 hL) (Or.inl rfl) ?_
    refine v_sipush dX5_findClash_40 (by decide) (in_lit (by decide)) ?_
    refine v_iload_n dX5_findClash_43 rfl ?_
    obtain ⟨o2, K⟩ := K
    refine v_imul dX5_findClash_44 o2 ?_
    show V w 4 mX5_findClash 45 [some (vR 313), none, some (vI ((o : Nat) : Int)), some (vI ((a : Nat) : Int)), some (vI ((b : Nat) : Int)), none, none] [vI ((1600 * o : Nat) : Int), vR 346] S J Q
    refine v_bipush dX5_findClash_45 (by decide) (in_lit (by decide)) ?_
    refine v_iload_n dX5_findClash_47 rfl ?_
    obtain ⟨o3, K⟩ := K
    refine v_imul dX5_findClash_48 o3 ?_
    show V w 4 mX5_findClash 49 [some (vR 313), none, some (vI ((o : Nat) : Int)), some (vI ((a : Nat) : Int)), some (vI ((b : Nat) : Int)), none, none] [vI ((40 * a : Nat) : Int), vI ((1600 * o : Nat) : Int), vR 346] S J Q
    obtain ⟨o4, K⟩ := K
    refine v_iadd dX5_findClash_49 o4 ?_
    show V w 4 mX5_findClash 50 [some (vR 313), none, some (vI ((o : Nat) : Int)), some (vI ((a : Nat) : Int)), some (vI ((b : Nat) : Int)), none, none] [vI (((1600 * o) + (40 * a) : Nat) : Int), vR 346] S J Q
    refine v_iload dX5_findClash_50 rfl ?_
    obtain ⟨o5, K⟩ := K
    refine v_iadd dX5_findClash_52 o5 ?_
    show V w 4 mX5_findClash 53 [some (vR 313), none, some (vI ((o : Nat) : Int)), some (vI ((a : Nat) : Int)), some (vI ((b : Nat) : Int)), none, none] [vI ((((1600 * o) + (40 * a)) + b : Nat) : Int), vR 346] S J Q
    refine v_aload_n dX5_findClash_53 rfl ?_
    refine v_getR dX5_findClash_54 frX5_112_5 rfl (L_313 hL).1 (LR_313_46 hL) (Or.inl rfl) ?_
    refine v_iload dX5_findClash_57 rfl ?_
    obtain ⟨o6, K⟩ := K
    refine ld_345 dX5_findClash_59 hL (by omega) o6 ?_
    show V w 4 mX5_findClash 60 [some (vR 313), none, some (vI ((o : Nat) : Int)), some (vI ((a : Nat) : Int)), some (vI ((b : Nat) : Int)), none, none] [vI (J 345 b), vI ((((1600 * o) + (40 * a)) + b : Nat) : Int), vR 346] S J Q
    obtain ⟨o7, K⟩ := K
    refine st_346 dX5_findClash_60 hL (by omega) o7 ?_
    show V w 4 mX5_findClash 61 [some (vR 313), none, some (vI ((o : Nat) : Int)), some (vI ((a : Nat) : Int)), some (vI ((b : Nat) : Int)), none, none] [] S (up J 346 (((1600 * o) + (40 * a)) + b) (J 345 b)) Q
    obtain ⟨o8, K⟩ := K
    refine v_iinc dX5_findClash_61 rfl o8 ?_
    show V w 4 mX5_findClash 64 [some (vR 313), none, some (vI ((o : Nat) : Int)), some (vI ((a : Nat) : Int)), some (vI ((b + 1 : Nat) : Int)), none, none] [] S (up J 346 (((1600 * o) + (40 * a)) + b) (J 345 b)) Q
    refine v_goto 29 dX5_findClash_64 (by decide) ?_
    exact K
theorem gX5_findClash_87 {w : Wd} {S : Sh} {J : Jm} {Q : Out → Sh → Jm → Prop} (hL : Lay S) (a : Nat)
    (K : Br (40 ≤ ((a : Nat) : Int)) (Br (1000000 ≤ J 313 50) (Q (.inl (some (vI 0))) S J) (Q (.inl (some (vI 1))) S J)) ((-2147483648 ≤ ((a : Nat) : Int) + 1 ∧ ((a : Nat) : Int) + 1 ≤ 2147483647) ∧ V w 4 mX5_findClash 97 [some (vR 313), none, some (vI ((a : Nat) : Int)), some (vI ((a + 1 : Nat) : Int)), none, none, none] [] S J Q)) :
    V w 4 mX5_findClash 87 [some (vR 313), none, some (vI ((a : Nat) : Int)), none, none, none, none] [] S J Q := by
  refine v_iload_n dX5_findClash_87 rfl ?_
  refine v_bipush dX5_findClash_88 (by decide) (in_lit (by decide)) ?_
  obtain ⟨K1, K2⟩ := K
  refine v_icmp_ge 230 dX5_findClash_90 (by decide) (fun c1 => ?_) (fun c1 => ?_)
  · have K := K1 c1
    refine v_aload_n dX5_findClash_230 rfl ?_
    refine v_getI dX5_findClash_231 frX5_352_5 rfl rfl (L_313 hL).1 ?_
    refine v_ldc dX5_findClash_234 q1896 (z := 1000000) (by decide) ?_
    obtain ⟨K1, K2⟩ := K
    refine v_icmp_ge 243 dX5_findClash_236 (by decide) (fun c2 => ?_) (fun c2 => ?_)
    · have K := K1 c2
      refine v_iconst dX5_findClash_243 (in_lit (by decide)) ?_
      exact v_iret dX5_findClash_244 rfl (by decide) K
    · have K := K2 c2
      refine v_iconst dX5_findClash_239 (in_lit (by decide)) ?_
      refine v_goto 244 dX5_findClash_240 (by decide) ?_
      exact v_iret dX5_findClash_244 rfl (by decide) K
  · have K := K2 c1
    refine v_iload_n dX5_findClash_93 rfl ?_
    refine v_iconst dX5_findClash_94 (in_lit (by decide)) ?_
    obtain ⟨o1, K⟩ := K
    refine v_iadd dX5_findClash_95 o1 ?_
    show V w 4 mX5_findClash 96 [some (vR 313), none, some (vI ((a : Nat) : Int)), none, none, none, none] [vI ((a + 1 : Nat) : Int)] S J Q
    refine v_istore_n dX5_findClash_96 (Nat.le_of_ble_eq_true rfl) ?_
    show V w 4 mX5_findClash 97 [some (vR 313), none, some (vI ((a : Nat) : Int)), some (vI ((a + 1 : Nat) : Int)), none, none, none] [] S J Q
    exact K
theorem gX5_findClash_97 {w : Wd} {S : Sh} {J : Jm} {Q : Out → Sh → Jm → Prop} (hL : Lay S) (a : Nat) (b : Nat)
    (K : Br (40 ≤ ((b : Nat) : Int)) ((-2147483648 ≤ ((a : Nat) : Int) + 1 ∧ ((a : Nat) : Int) + 1 ≤ 2147483647) ∧ V w 4 mX5_findClash 87 [some (vR 313), none, some (vI ((a + 1 : Nat) : Int)), none, none, none, none] [] S J Q) ((-2147483648 ≤ 40 * ((a : Nat) : Int) ∧ 40 * ((a : Nat) : Int) ≤ 2147483647) ∧ (-2147483648 ≤ ((40 * a : Nat) : Int) + ((b : Nat) : Int) ∧ ((40 * a : Nat) : Int) + ((b : Nat) : Int) ≤ 2147483647) ∧ ((((40 * a) + b : Nat) : Int) < 3200) ∧ (-2147483648 ≤ 1600 + (((40 * a) + b : Nat) : Int) ∧ 1600 + (((40 * a) + b : Nat) : Int) ≤ 2147483647) ∧ (((1600 + ((40 * a) + b) : Nat) : Int) < 3200) ∧ Br (1000000 ≤ J 346 ((40 * a) + b)) (Br (J 342 ((40 * a) + b) = 0) (Br (J 342 (1600 + ((40 * a) + b)) = 0) ((-2147483648 ≤ ((b : Nat) : Int) + 1 ∧ ((b : Nat) : Int) + 1 ≤ 2147483647) ∧ V w 4 mX5_findClash 97 [some (vR 313), none, some (vI ((a : Nat) : Int)), some (vI ((b + 1 : Nat) : Int)), none, none, none] [] S J Q) (Br (1000000 ≤ J 346 (1600 + ((40 * a) + b))) ((-2147483648 ≤ ((b : Nat) : Int) + 1 ∧ ((b : Nat) : Int) + 1 ≤ 2147483647) ∧ V w 4 mX5_findClash 97 [some (vR 313), none, some (vI ((a : Nat) : Int)), some (vI ((b + 1 : Nat) : Int)), none, none, none] [] S J Q) ((∀ (J1 : Jm), J1 = clU J ((a : Nat) : Int) ((b : Nat) : Int) (2 : Int) (J 346 (1600 + ((40 * a) + b))) (1 : Int) → (-2147483648 ≤ ((b : Nat) : Int) + 1 ∧ ((b : Nat) : Int) + 1 ≤ 2147483647) ∧ V w 4 mX5_findClash 97 [some (vR 313), none, some (vI ((a : Nat) : Int)), some (vI ((b + 1 : Nat) : Int)), none, none, none] [] S J1 Q)))) (Br (J 342 (1600 + ((40 * a) + b)) = 0) ((-2147483648 ≤ ((b : Nat) : Int) + 1 ∧ ((b : Nat) : Int) + 1 ≤ 2147483647) ∧ V w 4 mX5_findClash 97 [some (vR 313), none, some (vI ((a : Nat) : Int)), some (vI ((b + 1 : Nat) : Int)), none, none, none] [] S J Q) (Br (1000000 ≤ J 346 (1600 + ((40 * a) + b))) ((-2147483648 ≤ ((b : Nat) : Int) + 1 ∧ ((b : Nat) : Int) + 1 ≤ 2147483647) ∧ V w 4 mX5_findClash 97 [some (vR 313), none, some (vI ((a : Nat) : Int)), some (vI ((b + 1 : Nat) : Int)), none, none, none] [] S J Q) ((∀ (J2 : Jm), J2 = clU J ((a : Nat) : Int) ((b : Nat) : Int) (2 : Int) (J 346 (1600 + ((40 * a) + b))) (1 : Int) → (-2147483648 ≤ ((b : Nat) : Int) + 1 ∧ ((b : Nat) : Int) + 1 ≤ 2147483647) ∧ V w 4 mX5_findClash 97 [some (vR 313), none, some (vI ((a : Nat) : Int)), some (vI ((b + 1 : Nat) : Int)), none, none, none] [] S J2 Q))))) (Br (1000000 ≤ J 346 (1600 + ((40 * a) + b))) (Br (J 342 ((40 * a) + b) = 0) (Br (J 342 (1600 + ((40 * a) + b)) = 0) ((-2147483648 ≤ ((b : Nat) : Int) + 1 ∧ ((b : Nat) : Int) + 1 ≤ 2147483647) ∧ V w 4 mX5_findClash 97 [some (vR 313), none, some (vI ((a : Nat) : Int)), some (vI ((b + 1 : Nat) : Int)), none, none, none] [] S J Q) ((-2147483648 ≤ ((b : Nat) : Int) + 1 ∧ ((b : Nat) : Int) + 1 ≤ 2147483647) ∧ V w 4 mX5_findClash 97 [some (vR 313), none, some (vI ((a : Nat) : Int)), some (vI ((b + 1 : Nat) : Int)), none, none, none] [] S J Q)) ((∀ (J3 : Jm), J3 = clU J ((a : Nat) : Int) ((b : Nat) : Int) (2 : Int) (J 346 ((40 * a) + b)) (0 : Int) → Br (J3 342 (1600 + ((40 * a) + b)) = 0) ((-2147483648 ≤ ((b : Nat) : Int) + 1 ∧ ((b : Nat) : Int) + 1 ≤ 2147483647) ∧ V w 4 mX5_findClash 97 [some (vR 313), none, some (vI ((a : Nat) : Int)), some (vI ((b + 1 : Nat) : Int)), none, none, none] [] S J3 Q) ((-2147483648 ≤ ((b : Nat) : Int) + 1 ∧ ((b : Nat) : Int) + 1 ≤ 2147483647) ∧ V w 4 mX5_findClash 97 [some (vR 313), none, some (vI ((a : Nat) : Int)), some (vI ((b + 1 : Nat) : Int)), none, none, none] [] S J3 Q)))) ((-2147483648 ≤ (J 346 ((40 * a) + b)) + (J 346 (1600 + ((40 * a) + b))) ∧ (J 346 ((40 * a) + b)) + (J 346 (1600 + ((40 * a) + b))) ≤ 2147483647) ∧ (∀ (J4 : Jm), J4 = clU J ((a : Nat) : Int) ((b : Nat) : Int) (1 : Int) ((J 346 ((40 * a) + b)) + (J 346 (1600 + ((40 * a) + b)))) (0 : Int) → Br (J4 342 ((40 * a) + b) = 0) (Br (J4 342 (1600 + ((40 * a) + b)) = 0) ((-2147483648 ≤ ((b : Nat) : Int) + 1 ∧ ((b : Nat) : Int) + 1 ≤ 2147483647) ∧ V w 4 mX5_findClash 97 [some (vR 313), none, some (vI ((a : Nat) : Int)), some (vI ((b + 1 : Nat) : Int)), none, none, none] [] S J4 Q) ((∀ (J5 : Jm), J5 = clU J4 ((a : Nat) : Int) ((b : Nat) : Int) (2 : Int) (J 346 (1600 + ((40 * a) + b))) (1 : Int) → (-2147483648 ≤ ((b : Nat) : Int) + 1 ∧ ((b : Nat) : Int) + 1 ≤ 2147483647) ∧ V w 4 mX5_findClash 97 [some (vR 313), none, some (vI ((a : Nat) : Int)), some (vI ((b + 1 : Nat) : Int)), none, none, none] [] S J5 Q))) ((∀ (J6 : Jm), J6 = clU J4 ((a : Nat) : Int) ((b : Nat) : Int) (2 : Int) (J 346 ((40 * a) + b)) (0 : Int) → Br (J6 342 (1600 + ((40 * a) + b)) = 0) ((-2147483648 ≤ ((b : Nat) : Int) + 1 ∧ ((b : Nat) : Int) + 1 ≤ 2147483647) ∧ V w 4 mX5_findClash 97 [some (vR 313), none, some (vI ((a : Nat) : Int)), some (vI ((b + 1 : Nat) : Int)), none, none, none] [] S J6 Q) ((∀ (J7 : Jm), J7 = clU J6 ((a : Nat) : Int) ((b : Nat) : Int) (2 : Int) (J 346 (1600 + ((40 * a) + b))) (1 : Int) → (-2147483648 ≤ ((b : Nat) : Int) + 1 ∧ ((b : Nat) : Int) + 1 ≤ 2147483647) ∧ V w 4 mX5_findClash 97 [some (vR 313), none, some (vI ((a : Nat) : Int)), some (vI ((b + 1 : Nat) : Int)), none, none, none] [] S J7 Q))))))))) :
    V w 4 mX5_findClash 97 [some (vR 313), none, some (vI ((a : Nat) : Int)), some (vI ((b : Nat) : Int)), none, none, none] [] S J Q := by
  refine v_iload_n dX5_findClash_97 rfl ?_
  refine v_bipush dX5_findClash_98 (by decide) (in_lit (by decide)) ?_
  obtain ⟨K1, K2⟩ := K
  refine v_icmp_ge 224 dX5_findClash_100 (by decide) (fun c1 => ?_) (fun c1 => ?_)
  · have K := K1 c1
    obtain ⟨o1, K⟩ := K
    refine v_iinc dX5_findClash_224 rfl o1 ?_
    show V w 4 mX5_findClash 227 [some (vR 313), none, some (vI ((a + 1 : Nat) : Int)), some (vI ((b : Nat) : Int)), none, none, none] [] S J Q
    refine v_goto 87 dX5_findClash_227 (by decide) ?_
    exact v_forget (fg_some (fg_none (fg_some (fg_none (fg_none (fg_none (fg_none fg_nil))))))) K
  · have K := K2 c1
    refine v_bipush dX5_findClash_103 (by decide) (in_lit (by decide)) ?_
    refine v_iload_n dX5_findClash_105 rfl ?_
    obtain ⟨o2, K⟩ := K
    refine v_imul dX5_findClash_106 o2 ?_
    show V w 4 mX5_findClash 107 [some (vR 313), none, some (vI ((a : Nat) : Int)), some (vI ((b : Nat) : Int)), none, none, none] [vI ((40 * a : Nat) : Int)] S J Q
    refine v_iload_n dX5_findClash_107 rfl ?_
    obtain ⟨o3, K⟩ := K
    refine v_iadd dX5_findClash_108 o3 ?_
    show V w 4 mX5_findClash 109 [some (vR 313), none, some (vI ((a : Nat) : Int)), some (vI ((b : Nat) : Int)), none, none, none] [vI (((40 * a) + b : Nat) : Int)] S J Q
    refine v_istore dX5_findClash_109 (Nat.le_of_ble_eq_true rfl) ?_
    show V w 4 mX5_findClash 111 [some (vR 313), none, some (vI ((a : Nat) : Int)), some (vI ((b : Nat) : Int)), some (vI (((40 * a) + b : Nat) : Int)), none, none] [] S J Q
    refine v_aload_n dX5_findClash_111 rfl ?_
    refine v_getR dX5_findClash_112 frX5_115_5 rfl (L_313 hL).1 (LR_313_52 hL) (Or.inl rfl) ?_
    refine v_iload dX5_findClash_115 rfl ?_
    obtain ⟨o4, K⟩ := K
    refine ld_346 dX5_findClash_117 hL (by omega) o4 ?_
    show V w 4 mX5_findClash 118 [some (vR 313), none, some (vI ((a : Nat) : Int)), some (vI ((b : Nat) : Int)), some (vI (((40 * a) + b : Nat) : Int)), none, none] [vI (J 346 ((40 * a) + b))] S J Q
    refine v_istore dX5_findClash_118 (Nat.le_of_ble_eq_true rfl) ?_
    show V w 4 mX5_findClash 120 [some (vR 313), none, some (vI ((a : Nat) : Int)), some (vI ((b : Nat) : Int)), some (vI (((40 * a) + b : Nat) : Int)), some (vI (J 346 ((40 * a) + b))), none] [] S J Q
    refine v_aload_n dX5_findClash_120 rfl ?_
    refine v_getR dX5_findClash_121 frX5_115_5 rfl (L_313 hL).1 (LR_313_52 hL) (Or.inl rfl) ?_
    refine v_sipush dX5_findClash_124 (by decide) (in_lit (by decide)) ?_
    refine v_iload dX5_findClash_127 rfl ?_
    obtain ⟨o5, K⟩ := K
    refine v_iadd dX5_findClash_129 o5 ?_
    show V w 4 mX5_findClash 130 [some (vR 313), none, some (vI ((a : Nat) : Int)), some (vI ((b : Nat) : Int)), some (vI (((40 * a) + b : Nat) : Int)), some (vI (J 346 ((40 * a) + b))), none] [vI ((1600 + ((40 * a) + b) : Nat) : Int), vR 346] S J Q
    obtain ⟨o6, K⟩ := K
    refine ld_346 dX5_findClash_130 hL (by omega) o6 ?_
    show V w 4 mX5_findClash 131 [some (vR 313), none, some (vI ((a : Nat) : Int)), some (vI ((b : Nat) : Int)), some (vI (((40 * a) + b : Nat) : Int)), some (vI (J 346 ((40 * a) + b))), none] [vI (J 346 (1600 + ((40 * a) + b)))] S J Q
    refine v_istore dX5_findClash_131 (Nat.le_of_ble_eq_true rfl) ?_
    show V w 4 mX5_findClash 133 [some (vR 313), none, some (vI ((a : Nat) : Int)), some (vI ((b : Nat) : Int)), some (vI (((40 * a) + b : Nat) : Int)), some (vI (J 346 ((40 * a) + b))), some (vI (J 346 (1600 + ((40 * a) + b))))] [] S J Q
    refine v_iload dX5_findClash_133 rfl ?_
    refine v_ldc dX5_findClash_135 q1896 (z := 1000000) (by decide) ?_
    obtain ⟨K1, K2⟩ := K
    refine v_icmp_ge 160 dX5_findClash_137 (by decide) (fun c2 => ?_) (fun c2 => ?_)
    · have K := K1 c2
      refine v_aload_n dX5_findClash_160 rfl ?_
      refine v_getR dX5_findClash_161 frX5_103_5 rfl (L_313 hL).1 (LR_313_43 hL) (Or.inl rfl) ?_
      refine v_iload dX5_findClash_164 rfl ?_
      refine ld_342 dX5_findClash_166 hL (by omega) o4 ?_
      show V w 4 mX5_findClash 167 [some (vR 313), none, some (vI ((a : Nat) : Int)), some (vI ((b : Nat) : Int)), some (vI (((40 * a) + b : Nat) : Int)), some (vI (J 346 ((40 * a) + b))), some (vI (J 346 (1600 + ((40 * a) + b))))] [vI (J 342 ((40 * a) + b))] S J Q
      obtain ⟨K1, K2⟩ := K
      refine v_if_eq 187 dX5_findClash_167 (by decide) (fun c3 => ?_) (fun c3 => ?_)
      · have K := K1 c3
        refine v_aload_n dX5_findClash_187 rfl ?_
        refine v_getR dX5_findClash_188 frX5_103_5 rfl (L_313 hL).1 (LR_313_43 hL) (Or.inl rfl) ?_
        refine v_sipush dX5_findClash_191 (by decide) (in_lit (by decide)) ?_
        refine v_iload dX5_findClash_194 rfl ?_
        refine v_iadd dX5_findClash_196 o5 ?_
        show V w 4 mX5_findClash 197 [some (vR 313), none, some (vI ((a : Nat) : Int)), some (vI ((b : Nat) : Int)), some (vI (((40 * a) + b : Nat) : Int)), some (vI (J 346 ((40 * a) + b))), some (vI (J 346 (1600 + ((40 * a) + b))))] [vI ((1600 + ((40 * a) + b) : Nat) : Int), vR 342] S J Q
        refine ld_342 dX5_findClash_197 hL (by omega) o6 ?_
        show V w 4 mX5_findClash 198 [some (vR 313), none, some (vI ((a : Nat) : Int)), some (vI ((b : Nat) : Int)), some (vI (((40 * a) + b : Nat) : Int)), some (vI (J 346 ((40 * a) + b))), some (vI (J 346 (1600 + ((40 * a) + b))))] [vI (J 342 (1600 + ((40 * a) + b)))] S J Q
        obtain ⟨K1, K2⟩ := K
        refine v_if_eq 218 dX5_findClash_198 (by decide) (fun c4 => ?_) (fun c4 => ?_)
        · have K := K1 c4
          obtain ⟨o7, K⟩ := K
          refine v_iinc dX5_findClash_218 rfl o7 ?_
          show V w 4 mX5_findClash 221 [some (vR 313), none, some (vI ((a : Nat) : Int)), some (vI ((b + 1 : Nat) : Int)), some (vI (((40 * a) + b : Nat) : Int)), some (vI (J 346 ((40 * a) + b))), some (vI (J 346 (1600 + ((40 * a) + b))))] [] S J Q
          refine v_goto 97 dX5_findClash_221 (by decide) ?_
          exact v_forget (fg_some (fg_none (fg_some (fg_some (fg_none (fg_none (fg_none fg_nil))))))) K
        · have K := K2 c4
          refine v_iload dX5_findClash_201 rfl ?_
          refine v_ldc dX5_findClash_203 q1896 (z := 1000000) (by decide) ?_
          obtain ⟨K1, K2⟩ := K
          refine v_icmp_ge 218 dX5_findClash_205 (by decide) (fun c5 => ?_) (fun c5 => ?_)
          · have K := K1 c5
            obtain ⟨o8, K⟩ := K
            refine v_iinc dX5_findClash_218 rfl o8 ?_
            show V w 4 mX5_findClash 221 [some (vR 313), none, some (vI ((a : Nat) : Int)), some (vI ((b + 1 : Nat) : Int)), some (vI (((40 * a) + b : Nat) : Int)), some (vI (J 346 ((40 * a) + b))), some (vI (J 346 (1600 + ((40 * a) + b))))] [] S J Q
            refine v_goto 97 dX5_findClash_221 (by decide) ?_
            exact v_forget (fg_some (fg_none (fg_some (fg_some (fg_none (fg_none (fg_none fg_nil))))))) K
          · have K := K2 c5
            refine v_aload_n dX5_findClash_208 rfl ?_
            refine v_iload_n dX5_findClash_209 rfl ?_
            refine v_iload_n dX5_findClash_210 rfl ?_
            refine v_iconst dX5_findClash_211 (in_lit (by decide)) ?_
            refine v_iload dX5_findClash_212 rfl ?_
            refine v_iconst dX5_findClash_214 (in_lit (by decide)) ?_
            refine v_callV (d' := 0) (rest := []) [vI ((a : Nat) : Int), vI ((b : Nat) : Int), vI 2, vI (J 346 (1600 + ((40 * a) + b))), vI 1] dX5_findClash_215 vrX5_355_5 (L_313 hL).1 rfl rfl (one_I (one_I (one_I (one_I (one_I one_nil))))) (Nat.le_of_ble_eq_true rfl) (Nat.le_of_ble_eq_true rfl) (Nat.le_of_ble_eq_true rfl) ?_
            refine s_clashes hL ((a : Nat) : Int) ((b : Nat) : Int) (2 : Int) (J 346 (1600 + ((40 * a) + b))) (1 : Int)  (fun J1 hp => ?_)
            have K := K J1 hp
            show V w 4 mX5_findClash 218 [some (vR 313), none, some (vI ((a : Nat) : Int)), some (vI ((b : Nat) : Int)), some (vI (((40 * a) + b : Nat) : Int)), some (vI (J 346 ((40 * a) + b))), some (vI (J 346 (1600 + ((40 * a) + b))))] [] S J1 Q
            obtain ⟨o9, K⟩ := K
            refine v_iinc dX5_findClash_218 rfl o9 ?_
            show V w 4 mX5_findClash 221 [some (vR 313), none, some (vI ((a : Nat) : Int)), some (vI ((b + 1 : Nat) : Int)), some (vI (((40 * a) + b : Nat) : Int)), some (vI (J 346 ((40 * a) + b))), some (vI (J 346 (1600 + ((40 * a) + b))))] [] S J1 Q
            refine v_goto 97 dX5_findClash_221 (by decide) ?_
            exact v_forget (fg_some (fg_none (fg_some (fg_some (fg_none (fg_none (fg_none fg_nil))))))) K
      · have K := K2 c3
        refine v_iload dX5_findClash_170 rfl ?_
        refine v_ldc dX5_findClash_172 q1896 (z := 1000000) (by decide) ?_
        refine v_icmp_ge 187 dX5_findClash_174 (by decide) (fun _ => ?_) (fun cQ => absurd c2 cQ)
        refine v_aload_n dX5_findClash_187 rfl ?_
        refine v_getR dX5_findClash_188 frX5_103_5 rfl (L_313 hL).1 (LR_313_43 hL) (Or.inl rfl) ?_
        refine v_sipush dX5_findClash_191 (by decide) (in_lit (by decide)) ?_
        refine v_iload dX5_findClash_194 rfl ?_
        refine v_iadd dX5_findClash_196 o5 ?_
        show V w 4 mX5_findClash 197 [some (vR 313), none, some (vI ((a : Nat) : Int)), some (vI ((b : Nat) : Int)), some (vI (((40 * a) + b : Nat) : Int)), some (vI (J 346 ((40 * a) + b))), some (vI (J 346 (1600 + ((40 * a) + b))))] [vI ((1600 + ((40 * a) + b) : Nat) : Int), vR 342] S J Q
        refine ld_342 dX5_findClash_197 hL (by omega) o6 ?_
        show V w 4 mX5_findClash 198 [some (vR 313), none, some (vI ((a : Nat) : Int)), some (vI ((b : Nat) : Int)), some (vI (((40 * a) + b : Nat) : Int)), some (vI (J 346 ((40 * a) + b))), some (vI (J 346 (1600 + ((40 * a) + b))))] [vI (J 342 (1600 + ((40 * a) + b)))] S J Q
        obtain ⟨K1, K2⟩ := K
        refine v_if_eq 218 dX5_findClash_198 (by decide) (fun c6 => ?_) (fun c6 => ?_)
        · have K := K1 c6
          obtain ⟨o10, K⟩ := K
          refine v_iinc dX5_findClash_218 rfl o10 ?_
          show V w 4 mX5_findClash 221 [some (vR 313), none, some (vI ((a : Nat) : Int)), some (vI ((b + 1 : Nat) : Int)), some (vI (((40 * a) + b : Nat) : Int)), some (vI (J 346 ((40 * a) + b))), some (vI (J 346 (1600 + ((40 * a) + b))))] [] S J Q
          refine v_goto 97 dX5_findClash_221 (by decide) ?_
          exact v_forget (fg_some (fg_none (fg_some (fg_some (fg_none (fg_none (fg_none fg_nil))))))) K
        · have K := K2 c6
          refine v_iload dX5_findClash_201 rfl ?_
          refine v_ldc dX5_findClash_203 q1896 (z := 1000000) (by decide) ?_
          obtain ⟨K1, K2⟩ := K
          refine v_icmp_ge 218 dX5_findClash_205 (by decide) (fun c7 => ?_) (fun c7 => ?_)
          · have K := K1 c7
            obtain ⟨o11, K⟩ := K
            refine v_iinc dX5_findClash_218 rfl o11 ?_
            show V w 4 mX5_findClash 221 [some (vR 313), none, some (vI ((a : Nat) : Int)), some (vI ((b + 1 : Nat) : Int)), some (vI (((40 * a) + b : Nat) : Int)), some (vI (J 346 ((40 * a) + b))), some (vI (J 346 (1600 + ((40 * a) + b))))] [] S J Q
            refine v_goto 97 dX5_findClash_221 (by decide) ?_
            exact v_forget (fg_some (fg_none (fg_some (fg_some (fg_none (fg_none (fg_none fg_nil))))))) K
          · have K := K2 c7
            refine v_aload_n dX5_findClash_208 rfl ?_
            refine v_iload_n dX5_findClash_209 rfl ?_
            refine v_iload_n dX5_findClash_210 rfl ?_
            refine v_iconst dX5_findClash_211 (in_lit (by decide)) ?_
            refine v_iload dX5_findClash_212 rfl ?_
            refine v_iconst dX5_findClash_214 (in_lit (by decide)) ?_
            refine v_callV (d' := 0) (rest := []) [vI ((a : Nat) : Int), vI ((b : Nat) : Int), vI 2, vI (J 346 (1600 + ((40 * a) + b))), vI 1] dX5_findClash_215 vrX5_355_5 (L_313 hL).1 rfl rfl (one_I (one_I (one_I (one_I (one_I one_nil))))) (Nat.le_of_ble_eq_true rfl) (Nat.le_of_ble_eq_true rfl) (Nat.le_of_ble_eq_true rfl) ?_
            refine s_clashes hL ((a : Nat) : Int) ((b : Nat) : Int) (2 : Int) (J 346 (1600 + ((40 * a) + b))) (1 : Int)  (fun J2 hp => ?_)
            have K := K J2 hp
            show V w 4 mX5_findClash 218 [some (vR 313), none, some (vI ((a : Nat) : Int)), some (vI ((b : Nat) : Int)), some (vI (((40 * a) + b : Nat) : Int)), some (vI (J 346 ((40 * a) + b))), some (vI (J 346 (1600 + ((40 * a) + b))))] [] S J2 Q
            obtain ⟨o12, K⟩ := K
            refine v_iinc dX5_findClash_218 rfl o12 ?_
            show V w 4 mX5_findClash 221 [some (vR 313), none, some (vI ((a : Nat) : Int)), some (vI ((b + 1 : Nat) : Int)), some (vI (((40 * a) + b : Nat) : Int)), some (vI (J 346 ((40 * a) + b))), some (vI (J 346 (1600 + ((40 * a) + b))))] [] S J2 Q
            refine v_goto 97 dX5_findClash_221 (by decide) ?_
            exact v_forget (fg_some (fg_none (fg_some (fg_some (fg_none (fg_none (fg_none fg_nil))))))) K
    · have K := K2 c2
      refine v_iload dX5_findClash_140 rfl ?_
      refine v_ldc dX5_findClash_142 q1896 (z := 1000000) (by decide) ?_
      obtain ⟨K1, K2⟩ := K
      refine v_icmp_ge 160 dX5_findClash_144 (by decide) (fun c8 => ?_) (fun c8 => ?_)
      · have K := K1 c8
        refine v_aload_n dX5_findClash_160 rfl ?_
        refine v_getR dX5_findClash_161 frX5_103_5 rfl (L_313 hL).1 (LR_313_43 hL) (Or.inl rfl) ?_
        refine v_iload dX5_findClash_164 rfl ?_
        refine ld_342 dX5_findClash_166 hL (by omega) o4 ?_
        show V w 4 mX5_findClash 167 [some (vR 313), none, some (vI ((a : Nat) : Int)), some (vI ((b : Nat) : Int)), some (vI (((40 * a) + b : Nat) : Int)), some (vI (J 346 ((40 * a) + b))), some (vI (J 346 (1600 + ((40 * a) + b))))] [vI (J 342 ((40 * a) + b))] S J Q
        obtain ⟨K1, K2⟩ := K
        refine v_if_eq 187 dX5_findClash_167 (by decide) (fun c9 => ?_) (fun c9 => ?_)
        · have K := K1 c9
          refine v_aload_n dX5_findClash_187 rfl ?_
          refine v_getR dX5_findClash_188 frX5_103_5 rfl (L_313 hL).1 (LR_313_43 hL) (Or.inl rfl) ?_
          refine v_sipush dX5_findClash_191 (by decide) (in_lit (by decide)) ?_
          refine v_iload dX5_findClash_194 rfl ?_
          refine v_iadd dX5_findClash_196 o5 ?_
          show V w 4 mX5_findClash 197 [some (vR 313), none, some (vI ((a : Nat) : Int)), some (vI ((b : Nat) : Int)), some (vI (((40 * a) + b : Nat) : Int)), some (vI (J 346 ((40 * a) + b))), some (vI (J 346 (1600 + ((40 * a) + b))))] [vI ((1600 + ((40 * a) + b) : Nat) : Int), vR 342] S J Q
          refine ld_342 dX5_findClash_197 hL (by omega) o6 ?_
          show V w 4 mX5_findClash 198 [some (vR 313), none, some (vI ((a : Nat) : Int)), some (vI ((b : Nat) : Int)), some (vI (((40 * a) + b : Nat) : Int)), some (vI (J 346 ((40 * a) + b))), some (vI (J 346 (1600 + ((40 * a) + b))))] [vI (J 342 (1600 + ((40 * a) + b)))] S J Q
          obtain ⟨K1, K2⟩ := K
          refine v_if_eq 218 dX5_findClash_198 (by decide) (fun c10 => ?_) (fun c10 => ?_)
          · have K := K1 c10
            obtain ⟨o13, K⟩ := K
            refine v_iinc dX5_findClash_218 rfl o13 ?_
            show V w 4 mX5_findClash 221 [some (vR 313), none, some (vI ((a : Nat) : Int)), some (vI ((b + 1 : Nat) : Int)), some (vI (((40 * a) + b : Nat) : Int)), some (vI (J 346 ((40 * a) + b))), some (vI (J 346 (1600 + ((40 * a) + b))))] [] S J Q
            refine v_goto 97 dX5_findClash_221 (by decide) ?_
            exact v_forget (fg_some (fg_none (fg_some (fg_some (fg_none (fg_none (fg_none fg_nil))))))) K
          · have K := K2 c10
            refine v_iload dX5_findClash_201 rfl ?_
            refine v_ldc dX5_findClash_203 q1896 (z := 1000000) (by decide) ?_
            refine v_icmp_ge 218 dX5_findClash_205 (by decide) (fun _ => ?_) (fun cQ => absurd c8 cQ)
            obtain ⟨o14, K⟩ := K
            refine v_iinc dX5_findClash_218 rfl o14 ?_
            show V w 4 mX5_findClash 221 [some (vR 313), none, some (vI ((a : Nat) : Int)), some (vI ((b + 1 : Nat) : Int)), some (vI (((40 * a) + b : Nat) : Int)), some (vI (J 346 ((40 * a) + b))), some (vI (J 346 (1600 + ((40 * a) + b))))] [] S J Q
            refine v_goto 97 dX5_findClash_221 (by decide) ?_
            exact v_forget (fg_some (fg_none (fg_some (fg_some (fg_none (fg_none (fg_none fg_nil))))))) K
        · have K := K2 c9
          refine v_iload dX5_findClash_170 rfl ?_
          refine v_ldc dX5_findClash_172 q1896 (z := 1000000) (by decide) ?_
          refine v_icmp_ge 187 dX5_findClash_174 (by decide) (fun cQ => absurd cQ c2) (fun _ => ?_)
          refine v_aload_n dX5_findClash_177 rfl ?_
          refine v_iload_n dX5_findClash_178 rfl ?_
          refine v_iload_n dX5_findClash_179 rfl ?_
          refine v_iconst dX5_findClash_180 (in_lit (by decide)) ?_
          refine v_iload dX5_findClash_181 rfl ?_
          refine v_iconst dX5_findClash_183 (in_lit (by decide)) ?_
          refine v_callV (d' := 0) (rest := []) [vI ((a : Nat) : Int), vI ((b : Nat) : Int), vI 2, vI (J 346 ((40 * a) + b)), vI 0] dX5_findClash_184 vrX5_355_5 (L_313 hL).1 rfl rfl (one_I (one_I (one_I (one_I (one_I one_nil))))) (Nat.le_of_ble_eq_true rfl) (Nat.le_of_ble_eq_true rfl) (Nat.le_of_ble_eq_true rfl) ?_
          refine s_clashes hL ((a : Nat) : Int) ((b : Nat) : Int) (2 : Int) (J 346 ((40 * a) + b)) (0 : Int)  (fun J3 hp => ?_)
          have K := K J3 hp
          show V w 4 mX5_findClash 187 [some (vR 313), none, some (vI ((a : Nat) : Int)), some (vI ((b : Nat) : Int)), some (vI (((40 * a) + b : Nat) : Int)), some (vI (J 346 ((40 * a) + b))), some (vI (J 346 (1600 + ((40 * a) + b))))] [] S J3 Q
          refine v_aload_n dX5_findClash_187 rfl ?_
          refine v_getR dX5_findClash_188 frX5_103_5 rfl (L_313 hL).1 (LR_313_43 hL) (Or.inl rfl) ?_
          refine v_sipush dX5_findClash_191 (by decide) (in_lit (by decide)) ?_
          refine v_iload dX5_findClash_194 rfl ?_
          refine v_iadd dX5_findClash_196 o5 ?_
          show V w 4 mX5_findClash 197 [some (vR 313), none, some (vI ((a : Nat) : Int)), some (vI ((b : Nat) : Int)), some (vI (((40 * a) + b : Nat) : Int)), some (vI (J 346 ((40 * a) + b))), some (vI (J 346 (1600 + ((40 * a) + b))))] [vI ((1600 + ((40 * a) + b) : Nat) : Int), vR 342] S J3 Q
          refine ld_342 dX5_findClash_197 hL (by omega) o6 ?_
          show V w 4 mX5_findClash 198 [some (vR 313), none, some (vI ((a : Nat) : Int)), some (vI ((b : Nat) : Int)), some (vI (((40 * a) + b : Nat) : Int)), some (vI (J 346 ((40 * a) + b))), some (vI (J 346 (1600 + ((40 * a) + b))))] [vI (J3 342 (1600 + ((40 * a) + b)))] S J3 Q
          obtain ⟨K1, K2⟩ := K
          refine v_if_eq 218 dX5_findClash_198 (by decide) (fun c11 => ?_) (fun c11 => ?_)
          · have K := K1 c11
            obtain ⟨o15, K⟩ := K
            refine v_iinc dX5_findClash_218 rfl o15 ?_
            show V w 4 mX5_findClash 221 [some (vR 313), none, some (vI ((a : Nat) : Int)), some (vI ((b + 1 : Nat) : Int)), some (vI (((40 * a) + b : Nat) : Int)), some (vI (J 346 ((40 * a) + b))), some (vI (J 346 (1600 + ((40 * a) + b))))] [] S J3 Q
            refine v_goto 97 dX5_findClash_221 (by decide) ?_
            exact v_forget (fg_some (fg_none (fg_some (fg_some (fg_none (fg_none (fg_none fg_nil))))))) K
          · have K := K2 c11
            refine v_iload dX5_findClash_201 rfl ?_
            refine v_ldc dX5_findClash_203 q1896 (z := 1000000) (by decide) ?_
            refine v_icmp_ge 218 dX5_findClash_205 (by decide) (fun _ => ?_) (fun cQ => absurd c8 cQ)
            obtain ⟨o16, K⟩ := K
            refine v_iinc dX5_findClash_218 rfl o16 ?_
            show V w 4 mX5_findClash 221 [some (vR 313), none, some (vI ((a : Nat) : Int)), some (vI ((b + 1 : Nat) : Int)), some (vI (((40 * a) + b : Nat) : Int)), some (vI (J 346 ((40 * a) + b))), some (vI (J 346 (1600 + ((40 * a) + b))))] [] S J3 Q
            refine v_goto 97 dX5_findClash_221 (by decide) ?_
            exact v_forget (fg_some (fg_none (fg_some (fg_some (fg_none (fg_none (fg_none fg_nil))))))) K
      · have K := K2 c8
        refine v_aload_n dX5_findClash_147 rfl ?_
        refine v_iload_n dX5_findClash_148 rfl ?_
        refine v_iload_n dX5_findClash_149 rfl ?_
        refine v_iconst dX5_findClash_150 (in_lit (by decide)) ?_
        refine v_iload dX5_findClash_151 rfl ?_
        refine v_iload dX5_findClash_153 rfl ?_
        obtain ⟨o17, K⟩ := K
        refine v_iadd dX5_findClash_155 o17 ?_
        refine v_iconst dX5_findClash_156 (in_lit (by decide)) ?_
        refine v_callV (d' := 0) (rest := []) [vI ((a : Nat) : Int), vI ((b : Nat) : Int), vI 1, vI ((J 346 ((40 * a) + b)) + (J 346 (1600 + ((40 * a) + b)))), vI 0] dX5_findClash_157 vrX5_355_5 (L_313 hL).1 rfl rfl (one_I (one_I (one_I (one_I (one_I one_nil))))) (Nat.le_of_ble_eq_true rfl) (Nat.le_of_ble_eq_true rfl) (Nat.le_of_ble_eq_true rfl) ?_
        refine s_clashes hL ((a : Nat) : Int) ((b : Nat) : Int) (1 : Int) ((J 346 ((40 * a) + b)) + (J 346 (1600 + ((40 * a) + b)))) (0 : Int)  (fun J4 hp => ?_)
        have K := K J4 hp
        show V w 4 mX5_findClash 160 [some (vR 313), none, some (vI ((a : Nat) : Int)), some (vI ((b : Nat) : Int)), some (vI (((40 * a) + b : Nat) : Int)), some (vI (J 346 ((40 * a) + b))), some (vI (J 346 (1600 + ((40 * a) + b))))] [] S J4 Q
        refine v_aload_n dX5_findClash_160 rfl ?_
        refine v_getR dX5_findClash_161 frX5_103_5 rfl (L_313 hL).1 (LR_313_43 hL) (Or.inl rfl) ?_
        refine v_iload dX5_findClash_164 rfl ?_
        refine ld_342 dX5_findClash_166 hL (by omega) o4 ?_
        show V w 4 mX5_findClash 167 [some (vR 313), none, some (vI ((a : Nat) : Int)), some (vI ((b : Nat) : Int)), some (vI (((40 * a) + b : Nat) : Int)), some (vI (J 346 ((40 * a) + b))), some (vI (J 346 (1600 + ((40 * a) + b))))] [vI (J4 342 ((40 * a) + b))] S J4 Q
        obtain ⟨K1, K2⟩ := K
        refine v_if_eq 187 dX5_findClash_167 (by decide) (fun c12 => ?_) (fun c12 => ?_)
        · have K := K1 c12
          refine v_aload_n dX5_findClash_187 rfl ?_
          refine v_getR dX5_findClash_188 frX5_103_5 rfl (L_313 hL).1 (LR_313_43 hL) (Or.inl rfl) ?_
          refine v_sipush dX5_findClash_191 (by decide) (in_lit (by decide)) ?_
          refine v_iload dX5_findClash_194 rfl ?_
          refine v_iadd dX5_findClash_196 o5 ?_
          show V w 4 mX5_findClash 197 [some (vR 313), none, some (vI ((a : Nat) : Int)), some (vI ((b : Nat) : Int)), some (vI (((40 * a) + b : Nat) : Int)), some (vI (J 346 ((40 * a) + b))), some (vI (J 346 (1600 + ((40 * a) + b))))] [vI ((1600 + ((40 * a) + b) : Nat) : Int), vR 342] S J4 Q
          refine ld_342 dX5_findClash_197 hL (by omega) o6 ?_
          show V w 4 mX5_findClash 198 [some (vR 313), none, some (vI ((a : Nat) : Int)), some (vI ((b : Nat) : Int)), some (vI (((40 * a) + b : Nat) : Int)), some (vI (J 346 ((40 * a) + b))), some (vI (J 346 (1600 + ((40 * a) + b))))] [vI (J4 342 (1600 + ((40 * a) + b)))] S J4 Q
          obtain ⟨K1, K2⟩ := K
          refine v_if_eq 218 dX5_findClash_198 (by decide) (fun c13 => ?_) (fun c13 => ?_)
          · have K := K1 c13
            obtain ⟨o18, K⟩ := K
            refine v_iinc dX5_findClash_218 rfl o18 ?_
            show V w 4 mX5_findClash 221 [some (vR 313), none, some (vI ((a : Nat) : Int)), some (vI ((b + 1 : Nat) : Int)), some (vI (((40 * a) + b : Nat) : Int)), some (vI (J 346 ((40 * a) + b))), some (vI (J 346 (1600 + ((40 * a) + b))))] [] S J4 Q
            refine v_goto 97 dX5_findClash_221 (by decide) ?_
            exact v_forget (fg_some (fg_none (fg_some (fg_some (fg_none (fg_none (fg_none fg_nil))))))) K
          · have K := K2 c13
            refine v_iload dX5_findClash_201 rfl ?_
            refine v_ldc dX5_findClash_203 q1896 (z := 1000000) (by decide) ?_
            refine v_icmp_ge 218 dX5_findClash_205 (by decide) (fun cQ => absurd cQ c8) (fun _ => ?_)
            refine v_aload_n dX5_findClash_208 rfl ?_
            refine v_iload_n dX5_findClash_209 rfl ?_
            refine v_iload_n dX5_findClash_210 rfl ?_
            refine v_iconst dX5_findClash_211 (in_lit (by decide)) ?_
            refine v_iload dX5_findClash_212 rfl ?_
            refine v_iconst dX5_findClash_214 (in_lit (by decide)) ?_
            refine v_callV (d' := 0) (rest := []) [vI ((a : Nat) : Int), vI ((b : Nat) : Int), vI 2, vI (J 346 (1600 + ((40 * a) + b))), vI 1] dX5_findClash_215 vrX5_355_5 (L_313 hL).1 rfl rfl (one_I (one_I (one_I (one_I (one_I one_nil))))) (Nat.le_of_ble_eq_true rfl) (Nat.le_of_ble_eq_true rfl) (Nat.le_of_ble_eq_true rfl) ?_
            refine s_clashes hL ((a : Nat) : Int) ((b : Nat) : Int) (2 : Int) (J 346 (1600 + ((40 * a) + b))) (1 : Int)  (fun J5 hp => ?_)
            have K := K J5 hp
            show V w 4 mX5_findClash 218 [some (vR 313), none, some (vI ((a : Nat) : Int)), some (vI ((b : Nat) : Int)), some (vI (((40 * a) + b : Nat) : Int)), some (vI (J 346 ((40 * a) + b))), some (vI (J 346 (1600 + ((40 * a) + b))))] [] S J5 Q
            obtain ⟨o19, K⟩ := K
            refine v_iinc dX5_findClash_218 rfl o19 ?_
            show V w 4 mX5_findClash 221 [some (vR 313), none, some (vI ((a : Nat) : Int)), some (vI ((b + 1 : Nat) : Int)), some (vI (((40 * a) + b : Nat) : Int)), some (vI (J 346 ((40 * a) + b))), some (vI (J 346 (1600 + ((40 * a) + b))))] [] S J5 Q
            refine v_goto 97 dX5_findClash_221 (by decide) ?_
            exact v_forget (fg_some (fg_none (fg_some (fg_some (fg_none (fg_none (fg_none fg_nil))))))) K
        · have K := K2 c12
          refine v_iload dX5_findClash_170 rfl ?_
          refine v_ldc dX5_findClash_172 q1896 (z := 1000000) (by decide) ?_
          refine v_icmp_ge 187 dX5_findClash_174 (by decide) (fun cQ => absurd cQ c2) (fun _ => ?_)
          refine v_aload_n dX5_findClash_177 rfl ?_
          refine v_iload_n dX5_findClash_178 rfl ?_
          refine v_iload_n dX5_findClash_179 rfl ?_
          refine v_iconst dX5_findClash_180 (in_lit (by decide)) ?_
          refine v_iload dX5_findClash_181 rfl ?_
          refine v_iconst dX5_findClash_183 (in_lit (by decide)) ?_
          refine v_callV (d' := 0) (rest := []) [vI ((a : Nat) : Int), vI ((b : Nat) : Int), vI 2, vI (J 346 ((40 * a) + b)), vI 0] dX5_findClash_184 vrX5_355_5 (L_313 hL).1 rfl rfl (one_I (one_I (one_I (one_I (one_I one_nil))))) (Nat.le_of_ble_eq_true rfl) (Nat.le_of_ble_eq_true rfl) (Nat.le_of_ble_eq_true rfl) ?_
          refine s_clashes hL ((a : Nat) : Int) ((b : Nat) : Int) (2 : Int) (J 346 ((40 * a) + b)) (0 : Int)  (fun J6 hp => ?_)
          have K := K J6 hp
          show V w 4 mX5_findClash 187 [some (vR 313), none, some (vI ((a : Nat) : Int)), some (vI ((b : Nat) : Int)), some (vI (((40 * a) + b : Nat) : Int)), some (vI (J 346 ((40 * a) + b))), some (vI (J 346 (1600 + ((40 * a) + b))))] [] S J6 Q
          refine v_aload_n dX5_findClash_187 rfl ?_
          refine v_getR dX5_findClash_188 frX5_103_5 rfl (L_313 hL).1 (LR_313_43 hL) (Or.inl rfl) ?_
          refine v_sipush dX5_findClash_191 (by decide) (in_lit (by decide)) ?_
          refine v_iload dX5_findClash_194 rfl ?_
          refine v_iadd dX5_findClash_196 o5 ?_
          show V w 4 mX5_findClash 197 [some (vR 313), none, some (vI ((a : Nat) : Int)), some (vI ((b : Nat) : Int)), some (vI (((40 * a) + b : Nat) : Int)), some (vI (J 346 ((40 * a) + b))), some (vI (J 346 (1600 + ((40 * a) + b))))] [vI ((1600 + ((40 * a) + b) : Nat) : Int), vR 342] S J6 Q
          refine ld_342 dX5_findClash_197 hL (by omega) o6 ?_
          show V w 4 mX5_findClash 198 [some (vR 313), none, some (vI ((a : Nat) : Int)), some (vI ((b : Nat) : Int)), some (vI (((40 * a) + b : Nat) : Int)), some (vI (J 346 ((40 * a) + b))), some (vI (J 346 (1600 + ((40 * a) + b))))] [vI (J6 342 (1600 + ((40 * a) + b)))] S J6 Q
          obtain ⟨K1, K2⟩ := K
          refine v_if_eq 218 dX5_findClash_198 (by decide) (fun c14 => ?_) (fun c14 => ?_)
          · have K := K1 c14
            obtain ⟨o20, K⟩ := K
            refine v_iinc dX5_findClash_218 rfl o20 ?_
            show V w 4 mX5_findClash 221 [some (vR 313), none, some (vI ((a : Nat) : Int)), some (vI ((b + 1 : Nat) : Int)), some (vI (((40 * a) + b : Nat) : Int)), some (vI (J 346 ((40 * a) + b))), some (vI (J 346 (1600 + ((40 * a) + b))))] [] S J6 Q
            refine v_goto 97 dX5_findClash_221 (by decide) ?_
            exact v_forget (fg_some (fg_none (fg_some (fg_some (fg_none (fg_none (fg_none fg_nil))))))) K
          · have K := K2 c14
            refine v_iload dX5_findClash_201 rfl ?_
            refine v_ldc dX5_findClash_203 q1896 (z := 1000000) (by decide) ?_
            refine v_icmp_ge 218 dX5_findClash_205 (by decide) (fun cQ => absurd cQ c8) (fun _ => ?_)
            refine v_aload_n dX5_findClash_208 rfl ?_
            refine v_iload_n dX5_findClash_209 rfl ?_
            refine v_iload_n dX5_findClash_210 rfl ?_
            refine v_iconst dX5_findClash_211 (in_lit (by decide)) ?_
            refine v_iload dX5_findClash_212 rfl ?_
            refine v_iconst dX5_findClash_214 (in_lit (by decide)) ?_
            refine v_callV (d' := 0) (rest := []) [vI ((a : Nat) : Int), vI ((b : Nat) : Int), vI 2, vI (J 346 (1600 + ((40 * a) + b))), vI 1] dX5_findClash_215 vrX5_355_5 (L_313 hL).1 rfl rfl (one_I (one_I (one_I (one_I (one_I one_nil))))) (Nat.le_of_ble_eq_true rfl) (Nat.le_of_ble_eq_true rfl) (Nat.le_of_ble_eq_true rfl) ?_
            refine s_clashes hL ((a : Nat) : Int) ((b : Nat) : Int) (2 : Int) (J 346 (1600 + ((40 * a) + b))) (1 : Int)  (fun J7 hp => ?_)
            have K := K J7 hp
            show V w 4 mX5_findClash 218 [some (vR 313), none, some (vI ((a : Nat) : Int)), some (vI ((b : Nat) : Int)), some (vI (((40 * a) + b : Nat) : Int)), some (vI (J 346 ((40 * a) + b))), some (vI (J 346 (1600 + ((40 * a) + b))))] [] S J7 Q
            obtain ⟨o21, K⟩ := K
            refine v_iinc dX5_findClash_218 rfl o21 ?_
            show V w 4 mX5_findClash 221 [some (vR 313), none, some (vI ((a : Nat) : Int)), some (vI ((b + 1 : Nat) : Int)), some (vI (((40 * a) + b : Nat) : Int)), some (vI (J 346 ((40 * a) + b))), some (vI (J 346 (1600 + ((40 * a) + b))))] [] S J7 Q
            refine v_goto 97 dX5_findClash_221 (by decide) ?_
            exact v_forget (fg_some (fg_none (fg_some (fg_some (fg_none (fg_none (fg_none fg_nil))))))) K
theorem gX5_walks_0 {w : Wd} {S : Sh} {J : Jm} {Q : Out → Sh → Jm → Prop} (hL : Lay S) (o : Nat) (a : Nat) (b : Nat)
    (K : (0 ≤ ((o : Nat) : Int) ∧ ((o : Nat) : Int) < 2) ∧ (0 ≤ ((b : Nat) : Int) ∧ ((b : Nat) : Int) < 40) ∧ (∀ p : Nat, p < 3200 → J 341 p = 0 ∨ J 341 p = 1) ∧ (∀ (J1 : Jm), PFar J ((o : Nat) : Int) ((b : Nat) : Int) J1 → V w 1 mX5_walks 9 [some (vR 313), some (vI ((o : Nat) : Int)), none, some (vI ((b : Nat) : Int)), some (vI ((a : Nat) : Int)), none] [] S J1 Q)) :
    V w 1 mX5_walks 0 (ent mX5_walks [vR 313, vI ((o : Nat) : Int), vI ((a : Nat) : Int), vI ((b : Nat) : Int)]) [] S J Q := by
  show V w 1 mX5_walks 0 [some (vR 313), some (vI ((o : Nat) : Int)), some (vI ((a : Nat) : Int)), some (vI ((b : Nat) : Int)), none, none] [] S J Q
  refine v_aload_n dX5_walks_0 rfl ?_
  refine v_iload_n dX5_walks_1 rfl ?_
  refine v_iload_n dX5_walks_2 rfl ?_
  refine v_callV (d' := 0) (rest := []) [vI ((o : Nat) : Int), vI ((b : Nat) : Int)] dX5_walks_3 vrX5_348_5 (L_313 hL).1 rfl rfl (one_I (one_I one_nil)) (Nat.le_of_ble_eq_true rfl) (Nat.le_of_ble_eq_true rfl) (Nat.le_of_ble_eq_true rfl) ?_
  obtain ⟨o1, K⟩ := K
  obtain ⟨o2, K⟩ := K
  obtain ⟨o3, K⟩ := K
  refine s_findFarI hL ((o : Nat) : Int) ((b : Nat) : Int) o1 o2 o3 (fun J1 hp => ?_)
  have K := K J1 hp
  show V w 1 mX5_walks 6 [some (vR 313), some (vI ((o : Nat) : Int)), some (vI ((a : Nat) : Int)), some (vI ((b : Nat) : Int)), none, none] [] S J1 Q
  refine v_iload_n dX5_walks_6 rfl ?_
  refine v_istore dX5_walks_7 (Nat.le_of_ble_eq_true rfl) ?_
  show V w 1 mX5_walks 9 [some (vR 313), some (vI ((o : Nat) : Int)), some (vI ((a : Nat) : Int)), some (vI ((b : Nat) : Int)), some (vI ((a : Nat) : Int)), none] [] S J1 Q
  exact v_forget (fg_some (fg_some (fg_none (fg_some (fg_some (fg_none fg_nil)))))) K
theorem gX5_walks_9 {w : Wd} {S : Sh} {J : Jm} {Q : Out → Sh → Jm → Prop} (hL : Lay S) (o : Nat) (b : Nat) (now : Nat)
    (K : Br (((now : Nat) : Int) = ((b : Nat) : Int)) (Q (.inl none) S J) (V w 1 mX5_walks 18 [some (vR 313), some (vI ((o : Nat) : Int)), none, some (vI ((b : Nat) : Int)), some (vI ((now : Nat) : Int)), some (vI 0)] [] S J Q)) :
    V w 1 mX5_walks 9 [some (vR 313), some (vI ((o : Nat) : Int)), none, some (vI ((b : Nat) : Int)), some (vI ((now : Nat) : Int)), none] [] S J Q := by
  refine v_iload dX5_walks_9 rfl ?_
  refine v_iload_n dX5_walks_11 rfl ?_
  obtain ⟨K1, K2⟩ := K
  refine v_icmp_eq 124 dX5_walks_12 (by decide) (fun c1 => ?_) (fun c1 => ?_)
  · have K := K1 c1
    exact v_vret dX5_walks_124 rfl K
  · have K := K2 c1
    refine v_iconst dX5_walks_15 (in_lit (by decide)) ?_
    refine v_istore dX5_walks_16 (Nat.le_of_ble_eq_true rfl) ?_
    show V w 1 mX5_walks 18 [some (vR 313), some (vI ((o : Nat) : Int)), none, some (vI ((b : Nat) : Int)), some (vI ((now : Nat) : Int)), some (vI 0)] [] S J Q
    exact K
theorem gX5_walks_18 {w : Wd} {S : Sh} {J : Jm} {Q : Out → Sh → Jm → Prop} (hL : Lay S) (o : Nat) (b : Nat) (now : Nat) (to : Nat)
    (K : (-2147483648 ≤ 1600 * ((o : Nat) : Int) ∧ 1600 * ((o : Nat) : Int) ≤ 2147483647) ∧ (-2147483648 ≤ 40 * ((now : Nat) : Int) ∧ 40 * ((now : Nat) : Int) ≤ 2147483647) ∧ (-2147483648 ≤ ((1600 * o : Nat) : Int) + ((40 * now : Nat) : Int) ∧ ((1600 * o : Nat) : Int) + ((40 * now : Nat) : Int) ≤ 2147483647) ∧ (-2147483648 ≤ (((1600 * o) + (40 * now) : Nat) : Int) + ((to : Nat) : Int) ∧ (((1600 * o) + (40 * now) : Nat) : Int) + ((to : Nat) : Int) ≤ 2147483647) ∧ (((((1600 * o) + (40 * now)) + to : Nat) : Int) < 3200) ∧ Br (J 341 (((1600 * o) + (40 * now)) + to) = 0) ((-2147483648 ≤ ((to : Nat) : Int) + 1 ∧ ((to : Nat) : Int) + 1 ≤ 2147483647) ∧ V w 1 mX5_walks 18 [some (vR 313), some (vI ((o : Nat) : Int)), none, some (vI ((b : Nat) : Int)), some (vI ((now : Nat) : Int)), some (vI ((to + 1 : Nat) : Int))] [] S J Q) ((((to : Nat) : Int) < 40) ∧ (((now : Nat) : Int) < 40) ∧ (-2147483648 ≤ (J 345 now) - 1 ∧ (J 345 now) - 1 ≤ 2147483647) ∧ Br (J 345 to = (J 345 now) - 1) ((-2147483648 ≤ 3 * (J 313 53) ∧ 3 * (J 313 53) ≤ 2147483647) ∧ (0 ≤ 3 * (J 313 53)) ∧ (3 * (J 313 53) < 240) ∧ (-2147483648 ≤ (3 * (J 313 53)) + 1 ∧ (3 * (J 313 53)) + 1 ≤ 2147483647) ∧ (0 ≤ (3 * (J 313 53)) + 1) ∧ ((3 * (J 313 53)) + 1 < 240) ∧ (-2147483648 ≤ (3 * (J 313 53)) + 2 ∧ (3 * (J 313 53)) + 2 ≤ 2147483647) ∧ (0 ≤ (3 * (J 313 53)) + 2) ∧ ((3 * (J 313 53)) + 2 < 240) ∧ (-2147483648 ≤ (J 313 53) + 1 ∧ (J 313 53) + 1 ≤ 2147483647) ∧ V w 1 mX5_walks 9 [some (vR 313), some (vI ((o : Nat) : Int)), none, some (vI ((b : Nat) : Int)), some (vI ((to : Nat) : Int)), none] [] S (up (up (up (up J 347 (3 * (J 313 53)).toNat ((o : Nat) : Int)) 347 ((3 * (J 313 53)) + 1).toNat ((now : Nat) : Int)) 347 ((3 * (J 313 53)) + 2).toNat ((to : Nat) : Int)) 313 53 ((J 313 53) + 1)) Q) ((-2147483648 ≤ ((to : Nat) : Int) + 1 ∧ ((to : Nat) : Int) + 1 ≤ 2147483647) ∧ V w 1 mX5_walks 18 [some (vR 313), some (vI ((o : Nat) : Int)), none, some (vI ((b : Nat) : Int)), some (vI ((now : Nat) : Int)), some (vI ((to + 1 : Nat) : Int))] [] S J Q))) :
    V w 1 mX5_walks 18 [some (vR 313), some (vI ((o : Nat) : Int)), none, some (vI ((b : Nat) : Int)), some (vI ((now : Nat) : Int)), some (vI ((to : Nat) : Int))] [] S J Q := by
  refine v_aload_n dX5_walks_18 rfl ?_
  refine v_getR dX5_walks_19 frX5_100_5 rfl (L_313 hL).1 (LR_313_42 hL) (Or.inl rfl) ?_
  refine v_sipush dX5_walks_22 (by decide) (in_lit (by decide)) ?_
  refine v_iload_n dX5_walks_25 rfl ?_
  obtain ⟨o1, K⟩ := K
  refine v_imul dX5_walks_26 o1 ?_
  show V w 1 mX5_walks 27 [some (vR 313), some (vI ((o : Nat) : Int)), none, some (vI ((b : Nat) : Int)), some (vI ((now : Nat) : Int)), some (vI ((to : Nat) : Int))] [vI ((1600 * o : Nat) : Int), vR 341] S J Q
  refine v_bipush dX5_walks_27 (by decide) (in_lit (by decide)) ?_
  refine v_iload dX5_walks_29 rfl ?_
  obtain ⟨o2, K⟩ := K
  refine v_imul dX5_walks_31 o2 ?_
  show V w 1 mX5_walks 32 [some (vR 313), some (vI ((o : Nat) : Int)), none, some (vI ((b : Nat) : Int)), some (vI ((now : Nat) : Int)), some (vI ((to : Nat) : Int))] [vI ((40 * now : Nat) : Int), vI ((1600 * o : Nat) : Int), vR 341] S J Q
  obtain ⟨o3, K⟩ := K
  refine v_iadd dX5_walks_32 o3 ?_
  show V w 1 mX5_walks 33 [some (vR 313), some (vI ((o : Nat) : Int)), none, some (vI ((b : Nat) : Int)), some (vI ((now : Nat) : Int)), some (vI ((to : Nat) : Int))] [vI (((1600 * o) + (40 * now) : Nat) : Int), vR 341] S J Q
  refine v_iload dX5_walks_33 rfl ?_
  obtain ⟨o4, K⟩ := K
  refine v_iadd dX5_walks_35 o4 ?_
  show V w 1 mX5_walks 36 [some (vR 313), some (vI ((o : Nat) : Int)), none, some (vI ((b : Nat) : Int)), some (vI ((now : Nat) : Int)), some (vI ((to : Nat) : Int))] [vI ((((1600 * o) + (40 * now)) + to : Nat) : Int), vR 341] S J Q
  obtain ⟨o5, K⟩ := K
  refine ld_341 dX5_walks_36 hL (by omega) o5 ?_
  show V w 1 mX5_walks 37 [some (vR 313), some (vI ((o : Nat) : Int)), none, some (vI ((b : Nat) : Int)), some (vI ((now : Nat) : Int)), some (vI ((to : Nat) : Int))] [vI (J 341 (((1600 * o) + (40 * now)) + to))] S J Q
  obtain ⟨K1, K2⟩ := K
  refine v_if_eq 59 dX5_walks_37 (by decide) (fun c1 => ?_) (fun c1 => ?_)
  · have K := K1 c1
    obtain ⟨o6, K⟩ := K
    refine v_iinc dX5_walks_59 rfl o6 ?_
    show V w 1 mX5_walks 62 [some (vR 313), some (vI ((o : Nat) : Int)), none, some (vI ((b : Nat) : Int)), some (vI ((now : Nat) : Int)), some (vI ((to + 1 : Nat) : Int))] [] S J Q
    refine v_goto 18 dX5_walks_62 (by decide) ?_
    exact K
  · have K := K2 c1
    refine v_aload_n dX5_walks_40 rfl ?_
    refine v_getR dX5_walks_41 frX5_112_5 rfl (L_313 hL).1 (LR_313_46 hL) (Or.inl rfl) ?_
    refine v_iload dX5_walks_44 rfl ?_
    obtain ⟨o7, K⟩ := K
    refine ld_345 dX5_walks_46 hL (by omega) o7 ?_
    show V w 1 mX5_walks 47 [some (vR 313), some (vI ((o : Nat) : Int)), none, some (vI ((b : Nat) : Int)), some (vI ((now : Nat) : Int)), some (vI ((to : Nat) : Int))] [vI (J 345 to)] S J Q
    refine v_aload_n dX5_walks_47 rfl ?_
    refine v_getR dX5_walks_48 frX5_112_5 rfl (L_313 hL).1 (LR_313_46 hL) (Or.inl rfl) ?_
    refine v_iload dX5_walks_51 rfl ?_
    obtain ⟨o8, K⟩ := K
    refine ld_345 dX5_walks_53 hL (by omega) o8 ?_
    show V w 1 mX5_walks 54 [some (vR 313), some (vI ((o : Nat) : Int)), none, some (vI ((b : Nat) : Int)), some (vI ((now : Nat) : Int)), some (vI ((to : Nat) : Int))] [vI (J 345 now), vI (J 345 to)] S J Q
    refine v_iconst dX5_walks_54 (in_lit (by decide)) ?_
    obtain ⟨o9, K⟩ := K
    refine v_isub dX5_walks_55 o9 ?_
    obtain ⟨K1, K2⟩ := K
    refine v_icmp_eq 65 dX5_walks_56 (by decide) (fun c2 => ?_) (fun c2 => ?_)
    · have K := K1 c2
      refine v_aload_n dX5_walks_65 rfl ?_
      refine v_getR dX5_walks_66 frX5_118_5 rfl (L_313 hL).1 (LR_313_54 hL) (Or.inl rfl) ?_
      refine v_iconst dX5_walks_69 (in_lit (by decide)) ?_
      refine v_aload_n dX5_walks_70 rfl ?_
      refine v_getI dX5_walks_71 frX5_374_5 rfl rfl (L_313 hL).1 ?_
      obtain ⟨o10, K⟩ := K
      refine v_imul dX5_walks_74 o10 ?_
      refine v_iload_n dX5_walks_75 rfl ?_
      obtain ⟨o11, K⟩ := K
      obtain ⟨o12, K⟩ := K
      refine st_347 dX5_walks_76 hL o11 o12 ?_
      show V w 1 mX5_walks 77 [some (vR 313), some (vI ((o : Nat) : Int)), none, some (vI ((b : Nat) : Int)), some (vI ((now : Nat) : Int)), some (vI ((to : Nat) : Int))] [] S (up J 347 (3 * (J 313 53)).toNat ((o : Nat) : Int)) Q
      refine v_aload_n dX5_walks_77 rfl ?_
      refine v_getR dX5_walks_78 frX5_118_5 rfl (L_313 hL).1 (LR_313_54 hL) (Or.inl rfl) ?_
      refine v_iconst dX5_walks_81 (in_lit (by decide)) ?_
      refine v_aload_n dX5_walks_82 rfl ?_
      refine v_getI dX5_walks_83 frX5_374_5 rfl rfl (L_313 hL).1 ?_
      show V w 1 mX5_walks 86 [some (vR 313), some (vI ((o : Nat) : Int)), none, some (vI ((b : Nat) : Int)), some (vI ((now : Nat) : Int)), some (vI ((to : Nat) : Int))] [vI (J 313 53), vI 3, vR 347] S (up J 347 (3 * (J 313 53)).toNat ((o : Nat) : Int)) Q
      refine v_imul dX5_walks_86 o10 ?_
      refine v_iconst dX5_walks_87 (in_lit (by decide)) ?_
      obtain ⟨o13, K⟩ := K
      refine v_iadd dX5_walks_88 o13 ?_
      refine v_iload dX5_walks_89 rfl ?_
      obtain ⟨o14, K⟩ := K
      obtain ⟨o15, K⟩ := K
      refine st_347 dX5_walks_91 hL o14 o15 ?_
      show V w 1 mX5_walks 92 [some (vR 313), some (vI ((o : Nat) : Int)), none, some (vI ((b : Nat) : Int)), some (vI ((now : Nat) : Int)), some (vI ((to : Nat) : Int))] [] S (up (up J 347 (3 * (J 313 53)).toNat ((o : Nat) : Int)) 347 ((3 * (J 313 53)) + 1).toNat ((now : Nat) : Int)) Q
      refine v_aload_n dX5_walks_92 rfl ?_
      refine v_getR dX5_walks_93 frX5_118_5 rfl (L_313 hL).1 (LR_313_54 hL) (Or.inl rfl) ?_
      refine v_iconst dX5_walks_96 (in_lit (by decide)) ?_
      refine v_aload_n dX5_walks_97 rfl ?_
      refine v_getI dX5_walks_98 frX5_374_5 rfl rfl (L_313 hL).1 ?_
      show V w 1 mX5_walks 101 [some (vR 313), some (vI ((o : Nat) : Int)), none, some (vI ((b : Nat) : Int)), some (vI ((now : Nat) : Int)), some (vI ((to : Nat) : Int))] [vI (J 313 53), vI 3, vR 347] S (up (up J 347 (3 * (J 313 53)).toNat ((o : Nat) : Int)) 347 ((3 * (J 313 53)) + 1).toNat ((now : Nat) : Int)) Q
      refine v_imul dX5_walks_101 o10 ?_
      refine v_iconst dX5_walks_102 (in_lit (by decide)) ?_
      obtain ⟨o16, K⟩ := K
      refine v_iadd dX5_walks_103 o16 ?_
      refine v_iload dX5_walks_104 rfl ?_
      obtain ⟨o17, K⟩ := K
      obtain ⟨o18, K⟩ := K
      refine st_347 dX5_walks_106 hL o17 o18 ?_
      show V w 1 mX5_walks 107 [some (vR 313), some (vI ((o : Nat) : Int)), none, some (vI ((b : Nat) : Int)), some (vI ((now : Nat) : Int)), some (vI ((to : Nat) : Int))] [] S (up (up (up J 347 (3 * (J 313 53)).toNat ((o : Nat) : Int)) 347 ((3 * (J 313 53)) + 1).toNat ((now : Nat) : Int)) 347 ((3 * (J 313 53)) + 2).toNat ((to : Nat) : Int)) Q
      refine v_aload_n dX5_walks_107 rfl ?_
      refine v_dup dX5_walks_108 trivial ?_
      refine v_getI dX5_walks_109 frX5_374_5 rfl rfl (L_313 hL).1 ?_
      show V w 1 mX5_walks 112 [some (vR 313), some (vI ((o : Nat) : Int)), none, some (vI ((b : Nat) : Int)), some (vI ((now : Nat) : Int)), some (vI ((to : Nat) : Int))] [vI (J 313 53), vR 313] S (up (up (up J 347 (3 * (J 313 53)).toNat ((o : Nat) : Int)) 347 ((3 * (J 313 53)) + 1).toNat ((now : Nat) : Int)) 347 ((3 * (J 313 53)) + 2).toNat ((to : Nat) : Int)) Q
      refine v_iconst dX5_walks_112 (in_lit (by decide)) ?_
      obtain ⟨o19, K⟩ := K
      refine v_iadd dX5_walks_113 o19 ?_
      refine v_putI dX5_walks_114 frX5_374_5 (fun _ _ _ h => by cases h; exact Or.inl rfl) rfl rfl zfit_int (L_313 hL).1 ?_
      show V w 1 mX5_walks 117 [some (vR 313), some (vI ((o : Nat) : Int)), none, some (vI ((b : Nat) : Int)), some (vI ((now : Nat) : Int)), some (vI ((to : Nat) : Int))] [] S (up (up (up (up J 347 (3 * (J 313 53)).toNat ((o : Nat) : Int)) 347 ((3 * (J 313 53)) + 1).toNat ((now : Nat) : Int)) 347 ((3 * (J 313 53)) + 2).toNat ((to : Nat) : Int)) 313 53 ((J 313 53) + 1)) Q
      refine v_iload dX5_walks_117 rfl ?_
      refine v_istore dX5_walks_119 (Nat.le_of_ble_eq_true rfl) ?_
      show V w 1 mX5_walks 121 [some (vR 313), some (vI ((o : Nat) : Int)), none, some (vI ((b : Nat) : Int)), some (vI ((to : Nat) : Int)), some (vI ((to : Nat) : Int))] [] S (up (up (up (up J 347 (3 * (J 313 53)).toNat ((o : Nat) : Int)) 347 ((3 * (J 313 53)) + 1).toNat ((now : Nat) : Int)) 347 ((3 * (J 313 53)) + 2).toNat ((to : Nat) : Int)) 313 53 ((J 313 53) + 1)) Q
      refine v_goto 9 dX5_walks_121 (by decide) ?_
      exact v_forget (fg_some (fg_some (fg_none (fg_some (fg_some (fg_none fg_nil)))))) K
    · have K := K2 c2
      obtain ⟨o20, K⟩ := K
      refine v_iinc dX5_walks_59 rfl o20 ?_
      show V w 1 mX5_walks 62 [some (vR 313), some (vI ((o : Nat) : Int)), none, some (vI ((b : Nat) : Int)), some (vI ((now : Nat) : Int)), some (vI ((to + 1 : Nat) : Int))] [] S J Q
      refine v_goto 18 dX5_walks_62 (by decide) ?_
      exact K

noncomputable def pB (P : Prop) : Bool := @decide P (Classical.propDecidable P)
theorem pB_t {P : Prop} : pB P = true ↔ P := @decide_eq_true_iff P (Classical.propDecidable P)
theorem pB_f {P : Prop} : pB P = false ↔ ¬ P := by
  constructor
  · intro h q
    rw [pB_t.mpr q] at h
    cases h
  · intro h
    cases e : pB P with
    | false => rfl
    | true => exact absurd (pB_t.mp e) h
/-- how far: none if not reached -/
noncomputable def dO (E : Nat → Nat → Prop) (a b : Nat) : Option Nat := @dite _ (∃ n, IsDst E a b n) (Classical.propDecidable _) (fun h => some (Classical.choose h)) (fun _ => none)
theorem dO_some {E : Nat → Nat → Prop} {a b n : Nat} (h : IsDst E a b n) : dO E a b = some n := by
  unfold dO
  rw [dif_pos ⟨n, h⟩]
  exact congrArg some ((Classical.choose_spec (⟨n, h⟩ : ∃ n, IsDst E a b n)).uniq h)
theorem dO_none {E : Nat → Nat → Prop} {a b : Nat} (h : ∀ n, ¬ RN E n a b) : dO E a b = none := by
  unfold dO
  rw [dif_neg (fun ⟨n, q⟩ => h n q.1)]
theorem dO_is {E : Nat → Nat → Prop} {a b n : Nat} (h : dO E a b = some n) : IsDst E a b n := by
  unfold dO at h
  by_cases q : ∃ n, IsDst E a b n
  · rw [dif_pos q] at h
    have := Classical.choose_spec q
    rw [Option.some.inj h] at this
    exact this
  · rw [dif_neg q] at h
    cases h
def oI (x : Option Nat) : Int := match x with | none => 1000000 | some n => (n : Int)
theorem FarOk.d {E : Nat → Nat → Prop} {a b : Nat} {f : Nat → Int} (h : FarOk E a f) (hb : b < 40) : f b = oI (dO E a b) ∧ ∀ n, dO E a b = some n → n < 40 := by
  rcases h b hb with ⟨n, h1, h2, h3⟩ | ⟨h1, h2⟩
  · rw [dO_some h3]
    exact ⟨h2, fun m q => by cases q; exact h1⟩
  · rw [dO_none h2]
    exact ⟨h1, fun m q => by cases q⟩
/-- a clash: how many links, both signs, its kind and sort; the first least one stays -/
abbrev ClT := Nat × Nat × Nat × Nat × Nat
def cl1 (a b kind sort : Nat) (its : Option Nat) (st : Option ClT) : Option ClT := match its with
  | none => st
  | some n => match st with
    | none => some (n, a, b, kind, sort)
    | some t => if n < t.1 then some (n, a, b, kind, sort) else some t
def o2 (x y : Option Nat) : Option Nat := match x, y with
  | some n, some m => some (n + m)
  | _, _ => none
def clP (D : Nat → Nat → Nat → Option Nat) (P : Nat → Nat → Nat → Bool) (a b : Nat) (st : Option ClT) : Option ClT :=
  cl1 a b 2 1 (if P 1 a b = true then D 1 a b else none) (cl1 a b 2 0 (if P 0 a b = true then D 0 a b else none) (cl1 a b 1 0 (o2 (D 0 a b) (D 1 a b)) st))
def clR (D : Nat → Nat → Nat → Option Nat) (P : Nat → Nat → Nat → Bool) (a : Nat) (st : Option ClT) : Nat → Option ClT
  | 0 => st
  | v + 1 => clP D P a (a + 1 + v) (clR D P a st v)
def clM (D : Nat → Nat → Nat → Option Nat) (P : Nat → Nat → Nat → Bool) : Nat → Option ClT
  | 0 => none
  | a + 1 => clR D P a (clM D P a) (39 - a)
def CsAtM (J : Jm) (st : Option ClT) : Prop := match st with
  | none => J 313 50 = 1000000
  | some t => J 313 50 = t.1 ∧ J 313 47 = t.2.1 ∧ J 313 48 = t.2.2.1 ∧ J 313 49 = t.2.2.2.1 ∧ J 313 51 = t.2.2.2.2
theorem clU_fr {J : Jm} {a b kind its sort : Int} {x k : Nat} (h : ¬ (x = 313 ∧ 47 ≤ k ∧ k ≤ 51)) : clU J a b kind its sort x k = J x k := by
  unfold clU
  split
  · rw [up_ne (fun q => h ⟨q.1, by omega, by omega⟩), up_ne (fun q => h ⟨q.1, by omega, by omega⟩), up_ne (fun q => h ⟨q.1, by omega, by omega⟩), up_ne (fun q => h ⟨q.1, by omega, by omega⟩), up_ne (fun q => h ⟨q.1, by omega, by omega⟩)]
  · rfl
theorem clU_at {J : Jm} {st : Option ClT} (h : CsAtM J st) {a b kind sort n : Nat} (hn : n < 1000000) : CsAtM (clU J (a : Int) (b : Int) (kind : Int) (n : Int) (sort : Int)) (cl1 a b kind sort (some n) st) := by
  have up5 : CsAtM (up (up (up (up (up J 313 47 (a : Int)) 313 48 (b : Int)) 313 49 (kind : Int)) 313 50 (n : Int)) 313 51 (sort : Int)) (some (n, a, b, kind, sort)) := by
    refine ⟨?_, ?_, ?_, ?_, ?_⟩
    all_goals simp [up]
  unfold clU cl1
  cases st with
  | none =>
    have h0 : J 313 50 = 1000000 := h
    rw [if_pos (by omega)]
    exact up5
  | some t =>
    have h0 : J 313 50 = t.1 := h.1
    dsimp only
    by_cases c : n < t.1
    · rw [if_pos (by omega), if_pos c]
      exact up5
    · rw [if_neg (by omega), if_neg c]
      exact h
/-- linked and parted of all two signs -/
def lkP (J : Jm) (known : Int) (o : Nat) : Nat → Nat → Prop := fun u v => u < 40 ∧ v < 40 ∧ LK J known o u v
noncomputable def dstM (J : Jm) (known : Int) (o a b : Nat) : Option Nat := dO (lkP J known o) a b
noncomputable def ptM (J : Jm) (known : Int) (o a b : Nat) : Bool := pB (PT J known o a b)
noncomputable def clashM (J : Jm) (known : Int) : Option ClT := clM (dstM J known) (ptM J known) 40
def isS (x : Option ClT) : Int := match x with | none => 0 | some _ => 1
def InsT (D : Nat → Nat → Nat → Option Nat) (st : Option ClT) : Prop := ∀ t, st = some t → t.1 < 1000000 ∧ t.2.1 < 40 ∧ t.2.2.1 < 40 ∧ ((t.2.2.2.1 = 1 ∧ t.2.2.2.2 = 0 ∧ (∃ n, D 0 t.2.1 t.2.2.1 = some n) ∧ (∃ n, D 1 t.2.1 t.2.2.1 = some n)) ∨ (t.2.2.2.1 = 2 ∧ t.2.2.2.2 < 2 ∧ ∃ n, D t.2.2.2.2 t.2.1 t.2.2.1 = some n))
theorem InsT.scl1 {D : Nat → Nat → Nat → Option Nat} {st : Option ClT} (h : InsT D st) {a b kind sort : Nat} {its : Option Nat} (h1 : ∀ n, its = some n → n < 1000000 ∧ a < 40 ∧ b < 40 ∧ ((kind = 1 ∧ sort = 0 ∧ (∃ n, D 0 a b = some n) ∧ (∃ n, D 1 a b = some n)) ∨ (kind = 2 ∧ sort < 2 ∧ ∃ n, D sort a b = some n))) : InsT D (cl1 a b kind sort its st) := by
  cases its with
  | none => exact h
  | some n =>
    have h2 := h1 n rfl
    cases st with
    | none => intro t e; cases e; exact h2
    | some u =>
      unfold cl1
      dsimp only
      split
      · intro t e; cases e; exact h2
      · exact h
theorem InsT.sclP {D : Nat → Nat → Nat → Option Nat} {P : Nat → Nat → Nat → Bool} (hD : ∀ o a b n, o < 2 → a < 40 → b < 40 → D o a b = some n → n < 40) {st : Option ClT} (h : InsT D st) {a b : Nat} (ha : a < 40) (hb : b < 40) : InsT D (clP D P a b st) := by
  refine InsT.scl1 (InsT.scl1 (InsT.scl1 h ?_) ?_) ?_
  · intro n e
    cases e0 : D 0 a b with
    | none => rw [e0] at e; cases e
    | some x =>
      cases e1 : D 1 a b with
      | none => rw [e0, e1] at e; cases e
      | some y =>
        rw [e0, e1] at e
        have q0 := hD 0 a b x (by decide) ha hb e0
        have q1 := hD 1 a b y (by decide) ha hb e1
        have : x + y = n := Option.some.inj e
        exact ⟨by omega, ha, hb, .inl ⟨rfl, rfl, ⟨x, rfl⟩, ⟨y, rfl⟩⟩⟩
  · intro n e
    split at e
    · have q0 := hD 0 a b n (by decide) ha hb e
      exact ⟨by omega, ha, hb, .inr ⟨rfl, by decide, n, e⟩⟩
    · cases e
  · intro n e
    split at e
    · have q0 := hD 1 a b n (by decide) ha hb e
      exact ⟨by omega, ha, hb, .inr ⟨rfl, by decide, n, e⟩⟩
    · cases e
theorem InsT.sclR {D : Nat → Nat → Nat → Option Nat} {P : Nat → Nat → Nat → Bool} (hD : ∀ o a b n, o < 2 → a < 40 → b < 40 → D o a b = some n → n < 40) {st : Option ClT} (h : InsT D st) {a : Nat} (ha : a < 40) : ∀ v, a + v < 40 → InsT D (clR D P a st v)
  | 0, _ => h
  | v + 1, hv => InsT.sclP hD (InsT.sclR hD h ha v (by omega)) ha (by omega)
theorem InsT.sclM {D : Nat → Nat → Nat → Option Nat} {P : Nat → Nat → Nat → Bool} (hD : ∀ o a b n, o < 2 → a < 40 → b < 40 → D o a b = some n → n < 40) : ∀ a, a ≤ 40 → InsT D (clM D P a)
  | 0, _ => fun t e => by cases e
  | a + 1, ha => InsT.sclR hD (InsT.sclM hD a (by omega)) (by omega) _ (by omega)

theorem dst_lt {J : Jm} {known : Int} {o a b n : Nat} (f : Nat → Int) (hf : FarOk (lkP J known o) a f) (hb : b < 40) (h : dstM J known o a b = some n) : n < 40 := (hf.d hb).2 n h
def FCs (J J' : Jm) : Prop := ∀ a k, lkS a k = false → a ≠ 345 → a ≠ 346 → ¬ (a = 313 ∧ 47 ≤ k ∧ k ≤ 51) → J' a k = J a k
theorem s_findClash {w : Wd} {S : Sh} {J : Jm} {Q : Out → Sh → Jm → Prop} (hL : Lay S) (known : Int) (hH : MHeld J) (hT : MTab J) (hX : MTxt J) (hS : MShr J)
    (K : ∀ J', Kp J J' → CsAtM J' (clashM J known) → (∀ o a b n, o < 2 → a < 40 → b < 40 → dstM J known o a b = some n → n < 40) → (∀ o u v : Nat, o < 2 → u < 40 → v < 40 → B01 (J' 341 (1600 * o + 40 * u + v)) (LK J known o u v)) → Q (.inl (some (vI (isS (clashM J known))))) S J') : V w 4 mX5_findClash 0 (ent mX5_findClash [vR 313, vI known]) [] S J Q := by
  refine gX5_findClash_0 hL known ⟨hH, hT, hX, hS, fun J1 hp => ?_⟩
  obtain ⟨fl, -, -, hlk, hpt, -⟩ := hp
  have k1 := fl.kp
  -- as the links were found
  have lkE_eq : ∀ (J2 : Jm), (∀ p, J2 341 p = J1 341 p) → ∀ o, o < 2 → lkE J2 o = lkP J known o := by
    intro J2 h2 o ho
    funext u v
    unfold lkE lkP
    apply propext
    refine and_congr_right (fun hu => and_congr_right (fun hv => ?_))
    rw [h2]
    exact (hlk o u v ho hu hv).one
  have h01 : ∀ (J2 : Jm), (∀ p, J2 341 p = J1 341 p) → ∀ p : Nat, p < 3200 → J2 341 p = 0 ∨ J2 341 p = 1 := by
    intro J2 h2 p hp
    rw [h2]
    have := hlk (p / 1600) (p % 1600 / 40) (p % 40) (by omega) (by omega) (by omega)
    rw [show 1600 * (p / 1600) + 40 * (p % 1600 / 40) + p % 40 = p by omega] at this
    rcases this with ⟨q, -⟩ | ⟨q, -⟩
    · exact .inr q
    · exact .inl q
  have last : ∀ J2 : Jm, (∀ a k, a ≠ 345 → a ≠ 346 → J2 a k = J1 a k) → (∀ o a b, o < 2 → a < 40 → b < 40 → J2 346 (1600 * o + 40 * a + b) = oI (dstM J known o a b)) → (∀ o a b n, o < 2 → a < 40 → b < 40 → dstM J known o a b = some n → n < 40) → V w 4 mX5_findClash 87 [some (vR 313), none, some (vI ((0 : Nat) : Int)), none, none, none, none] [] S (up J2 313 50 1000000) Q := by
    intro J2 f2 ap hD
    have rows : ∀ (m a : Nat) (J3 : Jm), a + m = 40 → (∀ x k, ¬ (x = 313 ∧ 47 ≤ k ∧ k ≤ 51) → J3 x k = J2 x k) → CsAtM J3 (clM (dstM J known) (ptM J known) a) → V w 4 mX5_findClash 87 [some (vR 313), none, some (vI (a : Int)), none, none, none, none] [] S J3 Q := by
      intro m
      induction m with
      | zero =>
        intro a J3 ha f3 c3
        obtain rfl : a = 40 := by omega
        have kp : Kp J J3 := k1.trans (fun x k q => by
          rw [f3 x k (fun e => ?_), f2 x k (fun e => ?_) (fun e => ?_)]
          · rw [e] at q; cases q
          · rw [e] at q; cases q
          · obtain ⟨rfl, h1, h2⟩ := e
            have : k = 47 ∨ k = 48 ∨ k = 49 ∨ k = 50 ∨ k = 51 := by omega
            rcases this with rfl | rfl | rfl | rfl | rfl <;> cases q)
        have fin := K J3 kp c3 hD (fun o u v ho hu hv => by
          rw [f3 _ _ (by omega), f2 _ _ (by decide) (by decide)]
          exact hlk o u v ho hu hv)
        have hin := InsT.sclM (D := dstM J known) (P := ptM J known) hD 40 (by omega)
        have ec : clashM J known = clM (dstM J known) (ptM J known) 40 := rfl
        rw [ec] at fin
        revert fin c3 hin
        generalize clM (dstM J known) (ptM J known) 40 = st
        intro c3 fin hin
        refine gX5_findClash_87 hL 40 (br_y (by omega) ?_)
        cases st with
        | none =>
          have c0 : J3 313 50 = 1000000 := c3
          exact br_y (by omega) fin
        | some t =>
          have c0 : J3 313 50 = t.1 := c3.1
          have := (hin t rfl).1
          exact br_n (by omega) fin
      | succ m ih =>
        intro a J3 ha f3 c3
        refine gX5_findClash_87 hL a (br_n (by omega) ?_)
        (repeat' (first | ((with_reducible refine And.intro ?_ ?_); omega)))
        have cols : ∀ (n v : Nat) (J4 : Jm), v + n = 39 - a → (∀ x k, ¬ (x = 313 ∧ 47 ≤ k ∧ k ≤ 51) → J4 x k = J2 x k) → CsAtM J4 (clR (dstM J known) (ptM J known) a (clM (dstM J known) (ptM J known) a) v) → V w 4 mX5_findClash 97 [some (vR 313), none, some (vI (a : Int)), some (vI ((a + 1 + v : Nat) : Int)), none, none, none] [] S J4 Q := by
          intro n
          induction n with
          | zero =>
            intro v J4 hv f4 c4
            obtain rfl : v = 39 - a := by omega
            refine gX5_findClash_97 hL a (a + 1 + (39 - a)) (br_y (by omega) ?_)
            (repeat' (first | ((with_reducible refine And.intro ?_ ?_); omega)))
            exact ih (a + 1) J4 (by omega) f4 c4
          | succ n ihn =>
            intro v J4 hv f4 c4
            have next := fun J5 f5 (c5 : CsAtM J5 (clR (dstM J known) (ptM J known) a (clM (dstM J known) (ptM J known) a) (v + 1))) => ihn (v + 1) J5 (by omega) f5 c5
            have ec : clR (dstM J known) (ptM J known) a (clM (dstM J known) (ptM J known) a) (v + 1) = clP (dstM J known) (ptM J known) a (a + 1 + v) (clR (dstM J known) (ptM J known) a (clM (dstM J known) (ptM J known) a) v) := rfl
            rw [ec, show a + 1 + (v + 1) = a + 1 + v + 1 from rfl] at next
            have hb : a + 1 + v < 40 := by omega
            revert next c4
            generalize clR (dstM J known) (ptM J known) a (clM (dstM J known) (ptM J known) a) v = st
            generalize a + 1 + v = b at hb ⊢
            intro c4 next
            have ha4 : a < 40 := by omega
            have fr : ∀ (J5 : Jm) (kind its sort : Int), (∀ x k, ¬ (x = 313 ∧ 47 ≤ k ∧ k ≤ 51) → J5 x k = J2 x k) → ∀ x k, ¬ (x = 313 ∧ 47 ≤ k ∧ k ≤ 51) → clU J5 (a : Int) (b : Int) kind its sort x k = J2 x k := fun J5 kind its sort f5 x k q => by rw [clU_fr q, f5 x k q]
            have e0 : ∀ J5 : Jm, (∀ x k, ¬ (x = 313 ∧ 47 ≤ k ∧ k ≤ 51) → J5 x k = J2 x k) → J5 346 (40 * a + b) = oI (dstM J known 0 a b) := fun J5 f5 => by
              have := ap 0 a b (by decide) ha4 hb
              rw [show 1600 * 0 + 40 * a + b = 40 * a + b by omega] at this
              rw [f5 _ _ (by omega), this]
            have e1 : ∀ J5 : Jm, (∀ x k, ¬ (x = 313 ∧ 47 ≤ k ∧ k ≤ 51) → J5 x k = J2 x k) → J5 346 (1600 + (40 * a + b)) = oI (dstM J known 1 a b) := fun J5 f5 => by
              have := ap 1 a b (by decide) ha4 hb
              rw [show 1600 * 1 + 40 * a + b = 1600 + (40 * a + b) by omega] at this
              rw [f5 _ _ (by omega), this]
            have p0 : ∀ J5 : Jm, (∀ x k, ¬ (x = 313 ∧ 47 ≤ k ∧ k ≤ 51) → J5 x k = J2 x k) → (J5 342 (40 * a + b) = 0 ↔ ptM J known 0 a b = false) := fun J5 f5 => by
              have := hpt 0 a b (by decide) ha4 hb
              rw [show 1600 * 0 + 40 * a + b = 40 * a + b by omega] at this
              rw [f5 _ _ (by omega), f2 _ _ (by decide) (by decide)]
              unfold ptM
              rw [pB_f]
              exact this.zero
            have p1 : ∀ J5 : Jm, (∀ x k, ¬ (x = 313 ∧ 47 ≤ k ∧ k ≤ 51) → J5 x k = J2 x k) → (J5 342 (1600 + (40 * a + b)) = 0 ↔ ptM J known 1 a b = false) := fun J5 f5 => by
              have := hpt 1 a b (by decide) ha4 hb
              rw [show 1600 * 1 + 40 * a + b = 1600 + (40 * a + b) by omega] at this
              rw [f5 _ _ (by omega), f2 _ _ (by decide) (by decide)]
              unfold ptM
              rw [pB_f]
              exact this.zero
            have d0 := fun n => hD 0 a b n (by decide) ha4 hb
            have d1 := fun n => hD 1 a b n (by decide) ha4 hb
            unfold clP at next
            refine gX5_findClash_97 (J := J4) hL a b (br_n (by omega) ?_)
            rw [e0 J4 f4, e1 J4 f4]
            revert next e0 e1 p0 p1 d0 d1
            generalize dstM J known 0 a b = D0
            generalize dstM J known 1 a b = D1
            generalize ptM J known 0 a b = P0
            generalize ptM J known 1 a b = P1
            intro next e0 e1 p0 p1 d0 d1
            have cc : ∀ {J5 : Jm} {st : Option ClT} (h : CsAtM J5 st) {n m : Nat}, n + m < 1000000 → CsAtM (clU J5 (a : Int) (b : Int) 1 ((n : Int) + (m : Int)) 0) (cl1 a b 1 0 (some (n + m)) st) := by
              intro J5 st h n m q
              have := clU_at (a := a) (b := b) (kind := 1) (sort := 0) h q
              rw [Int.natCast_add] at this
              exact this
            (repeat' (first | ((with_reducible refine And.intro ?_ ?_); omega)))
            cases D0 with
            | none =>
              cases D1 with
              | none =>
                cases P0 with
                | false =>
                  cases P1 with
                  | false =>
                    refine br_y (Int.le_refl _) ?_
                    (repeat' (first | ((with_reducible refine And.intro ?_ ?_); omega)))
                    refine br_y ((p0 _ f4).mpr rfl) ?_
                    (repeat' (first | ((with_reducible refine And.intro ?_ ?_); omega)))
                    refine br_y ((p1 _ f4).mpr rfl) ?_
                    (repeat' (first | ((with_reducible refine And.intro ?_ ?_); omega)))
                    (repeat' (first | ((with_reducible refine And.intro ?_ ?_); omega)))
                    exact next _ f4 c4
                  | true =>
                    refine br_y (Int.le_refl _) ?_
                    (repeat' (first | ((with_reducible refine And.intro ?_ ?_); omega)))
                    refine br_y ((p0 _ f4).mpr rfl) ?_
                    (repeat' (first | ((with_reducible refine And.intro ?_ ?_); omega)))
                    refine br_n (fun q => by have := (p1 _ f4).mp q; cases this) ?_
                    (repeat' (first | ((with_reducible refine And.intro ?_ ?_); omega)))
                    refine br_y (Int.le_refl _) ?_
                    (repeat' (first | ((with_reducible refine And.intro ?_ ?_); omega)))
                    exact next _ f4 c4
                | true =>
                  cases P1 with
                  | false =>
                    refine br_y (Int.le_refl _) ?_
                    (repeat' (first | ((with_reducible refine And.intro ?_ ?_); omega)))
                    refine br_n (fun q => by have := (p0 _ f4).mp q; cases this) ?_
                    (repeat' (first | ((with_reducible refine And.intro ?_ ?_); omega)))
                    refine br_y ((p1 _ f4).mpr rfl) ?_
                    (repeat' (first | ((with_reducible refine And.intro ?_ ?_); omega)))
                    (repeat' (first | ((with_reducible refine And.intro ?_ ?_); omega)))
                    exact next _ f4 c4
                  | true =>
                    refine br_y (Int.le_refl _) ?_
                    (repeat' (first | ((with_reducible refine And.intro ?_ ?_); omega)))
                    refine br_n (fun q => by have := (p0 _ f4).mp q; cases this) ?_
                    (repeat' (first | ((with_reducible refine And.intro ?_ ?_); omega)))
                    refine br_n (fun q => by have := (p1 _ f4).mp q; cases this) ?_
                    (repeat' (first | ((with_reducible refine And.intro ?_ ?_); omega)))
                    refine br_y (Int.le_refl _) ?_
                    (repeat' (first | ((with_reducible refine And.intro ?_ ?_); omega)))
                    exact next _ f4 c4
              | some n1 =>
                cases P0 with
                | false =>
                  cases P1 with
                  | false =>
                    have z1 := d1 n1 rfl
                    refine br_y (Int.le_refl _) ?_
                    (repeat' (first | ((with_reducible refine And.intro ?_ ?_); omega)))
                    refine br_y ((p0 _ f4).mpr rfl) ?_
                    (repeat' (first | ((with_reducible refine And.intro ?_ ?_); omega)))
                    refine br_y ((p1 _ f4).mpr rfl) ?_
                    (repeat' (first | ((with_reducible refine And.intro ?_ ?_); omega)))
                    (repeat' (first | ((with_reducible refine And.intro ?_ ?_); omega)))
                    exact next _ f4 c4
                  | true =>
                    have z1 := d1 n1 rfl
                    refine br_y (Int.le_refl _) ?_
                    (repeat' (first | ((with_reducible refine And.intro ?_ ?_); omega)))
                    refine br_y ((p0 _ f4).mpr rfl) ?_
                    (repeat' (first | ((with_reducible refine And.intro ?_ ?_); omega)))
                    refine br_n (fun q => by have := (p1 _ f4).mp q; cases this) ?_
                    (repeat' (first | ((with_reducible refine And.intro ?_ ?_); omega)))
                    refine br_n (by show ¬ (1000000 : Int) ≤ ((n1 : Nat) : Int); omega) ?_
                    (repeat' (first | ((with_reducible refine And.intro ?_ ?_); omega)))
                    intro J5 e5; subst e5
                    (repeat' (first | ((with_reducible refine And.intro ?_ ?_); omega)))
                    exact next _ (fr _ _ _ _ f4) (clU_at (a := a) (b := b) (kind := 2) (sort := 1) (n := n1) c4 (by omega))
                | true =>
                  cases P1 with
                  | false =>
                    have z1 := d1 n1 rfl
                    refine br_y (Int.le_refl _) ?_
                    (repeat' (first | ((with_reducible refine And.intro ?_ ?_); omega)))
                    refine br_n (fun q => by have := (p0 _ f4).mp q; cases this) ?_
                    (repeat' (first | ((with_reducible refine And.intro ?_ ?_); omega)))
                    refine br_y ((p1 _ f4).mpr rfl) ?_
                    (repeat' (first | ((with_reducible refine And.intro ?_ ?_); omega)))
                    (repeat' (first | ((with_reducible refine And.intro ?_ ?_); omega)))
                    exact next _ f4 c4
                  | true =>
                    have z1 := d1 n1 rfl
                    refine br_y (Int.le_refl _) ?_
                    (repeat' (first | ((with_reducible refine And.intro ?_ ?_); omega)))
                    refine br_n (fun q => by have := (p0 _ f4).mp q; cases this) ?_
                    (repeat' (first | ((with_reducible refine And.intro ?_ ?_); omega)))
                    refine br_n (fun q => by have := (p1 _ f4).mp q; cases this) ?_
                    (repeat' (first | ((with_reducible refine And.intro ?_ ?_); omega)))
                    refine br_n (by show ¬ (1000000 : Int) ≤ ((n1 : Nat) : Int); omega) ?_
                    (repeat' (first | ((with_reducible refine And.intro ?_ ?_); omega)))
                    intro J5 e5; subst e5
                    (repeat' (first | ((with_reducible refine And.intro ?_ ?_); omega)))
                    exact next _ (fr _ _ _ _ f4) (clU_at (a := a) (b := b) (kind := 2) (sort := 1) (n := n1) c4 (by omega))
            | some n0 =>
              cases D1 with
              | none =>
                cases P0 with
                | false =>
                  cases P1 with
                  | false =>
                    have z0 := d0 n0 rfl
                    refine br_n (by show ¬ (1000000 : Int) ≤ ((n0 : Nat) : Int); omega) ?_
                    (repeat' (first | ((with_reducible refine And.intro ?_ ?_); omega)))
                    refine br_y (Int.le_refl _) ?_
                    (repeat' (first | ((with_reducible refine And.intro ?_ ?_); omega)))
                    refine br_y ((p0 _ f4).mpr rfl) ?_
                    (repeat' (first | ((with_reducible refine And.intro ?_ ?_); omega)))
                    refine br_y ((p1 _ f4).mpr rfl) ?_
                    (repeat' (first | ((with_reducible refine And.intro ?_ ?_); omega)))
                    exact next _ f4 c4
                  | true =>
                    have z0 := d0 n0 rfl
                    refine br_n (by show ¬ (1000000 : Int) ≤ ((n0 : Nat) : Int); omega) ?_
                    (repeat' (first | ((with_reducible refine And.intro ?_ ?_); omega)))
                    refine br_y (Int.le_refl _) ?_
                    (repeat' (first | ((with_reducible refine And.intro ?_ ?_); omega)))
                    refine br_y ((p0 _ f4).mpr rfl) ?_
                    (repeat' (first | ((with_reducible refine And.intro ?_ ?_); omega)))
                    refine br_n (fun q => by have := (p1 _ f4).mp q; cases this) ?_
                    (repeat' (first | ((with_reducible refine And.intro ?_ ?_); omega)))
                    exact next _ f4 c4
                | true =>
                  cases P1 with
                  | false =>
                    have z0 := d0 n0 rfl
                    refine br_n (by show ¬ (1000000 : Int) ≤ ((n0 : Nat) : Int); omega) ?_
                    (repeat' (first | ((with_reducible refine And.intro ?_ ?_); omega)))
                    refine br_y (Int.le_refl _) ?_
                    (repeat' (first | ((with_reducible refine And.intro ?_ ?_); omega)))
                    refine br_n (fun q => by have := (p0 _ f4).mp q; cases this) ?_
                    (repeat' (first | ((with_reducible refine And.intro ?_ ?_); omega)))
                    intro J5 e5; subst e5
                    (repeat' (first | ((with_reducible refine And.intro ?_ ?_); omega)))
                    refine br_y ((p1 _ (fr _ _ _ _ f4)).mpr rfl) ?_
                    (repeat' (first | ((with_reducible refine And.intro ?_ ?_); omega)))
                    exact next _ (fr _ _ _ _ f4) (clU_at (a := a) (b := b) (kind := 2) (sort := 0) (n := n0) c4 (by omega))
                  | true =>
                    have z0 := d0 n0 rfl
                    refine br_n (by show ¬ (1000000 : Int) ≤ ((n0 : Nat) : Int); omega) ?_
                    (repeat' (first | ((with_reducible refine And.intro ?_ ?_); omega)))
                    refine br_y (Int.le_refl _) ?_
                    (repeat' (first | ((with_reducible refine And.intro ?_ ?_); omega)))
                    refine br_n (fun q => by have := (p0 _ f4).mp q; cases this) ?_
                    (repeat' (first | ((with_reducible refine And.intro ?_ ?_); omega)))
                    intro J5 e5; subst e5
                    (repeat' (first | ((with_reducible refine And.intro ?_ ?_); omega)))
                    refine br_n (fun q => by have := (p1 _ (fr _ _ _ _ f4)).mp q; cases this) ?_
                    (repeat' (first | ((with_reducible refine And.intro ?_ ?_); omega)))
                    exact next _ (fr _ _ _ _ f4) (clU_at (a := a) (b := b) (kind := 2) (sort := 0) (n := n0) c4 (by omega))
              | some n1 =>
                cases P0 with
                | false =>
                  cases P1 with
                  | false =>
                    have z0 := d0 n0 rfl
                    have z1 := d1 n1 rfl
                    refine br_n (by show ¬ (1000000 : Int) ≤ ((n0 : Nat) : Int); omega) ?_
                    (repeat' (first | ((with_reducible refine And.intro ?_ ?_); omega)))
                    refine br_n (by show ¬ (1000000 : Int) ≤ ((n1 : Nat) : Int); omega) ?_
                    dsimp only [oI]
                    (repeat' (first | ((with_reducible refine And.intro ?_ ?_); omega)))
                    intro J5 e5; subst e5
                    (repeat' (first | ((with_reducible refine And.intro ?_ ?_); omega)))
                    refine br_y ((p0 _ (fr _ _ _ _ f4)).mpr rfl) ?_
                    (repeat' (first | ((with_reducible refine And.intro ?_ ?_); omega)))
                    refine br_y ((p1 _ (fr _ _ _ _ f4)).mpr rfl) ?_
                    (repeat' (first | ((with_reducible refine And.intro ?_ ?_); omega)))
                    exact next _ (fr _ _ _ _ f4) (cc c4 (by omega))
                  | true =>
                    have z0 := d0 n0 rfl
                    have z1 := d1 n1 rfl
                    refine br_n (by show ¬ (1000000 : Int) ≤ ((n0 : Nat) : Int); omega) ?_
                    (repeat' (first | ((with_reducible refine And.intro ?_ ?_); omega)))
                    refine br_n (by show ¬ (1000000 : Int) ≤ ((n1 : Nat) : Int); omega) ?_
                    dsimp only [oI]
                    (repeat' (first | ((with_reducible refine And.intro ?_ ?_); omega)))
                    intro J5 e5; subst e5
                    (repeat' (first | ((with_reducible refine And.intro ?_ ?_); omega)))
                    refine br_y ((p0 _ (fr _ _ _ _ f4)).mpr rfl) ?_
                    (repeat' (first | ((with_reducible refine And.intro ?_ ?_); omega)))
                    refine br_n (fun q => by have := (p1 _ (fr _ _ _ _ f4)).mp q; cases this) ?_
                    (repeat' (first | ((with_reducible refine And.intro ?_ ?_); omega)))
                    intro J5 e5; subst e5
                    (repeat' (first | ((with_reducible refine And.intro ?_ ?_); omega)))
                    exact next _ (fr _ _ _ _ (fr _ _ _ _ f4)) (clU_at (a := a) (b := b) (kind := 2) (sort := 1) (n := n1) (cc c4 (by omega)) (by omega))
                | true =>
                  cases P1 with
                  | false =>
                    have z0 := d0 n0 rfl
                    have z1 := d1 n1 rfl
                    refine br_n (by show ¬ (1000000 : Int) ≤ ((n0 : Nat) : Int); omega) ?_
                    (repeat' (first | ((with_reducible refine And.intro ?_ ?_); omega)))
                    refine br_n (by show ¬ (1000000 : Int) ≤ ((n1 : Nat) : Int); omega) ?_
                    dsimp only [oI]
                    (repeat' (first | ((with_reducible refine And.intro ?_ ?_); omega)))
                    intro J5 e5; subst e5
                    (repeat' (first | ((with_reducible refine And.intro ?_ ?_); omega)))
                    refine br_n (fun q => by have := (p0 _ (fr _ _ _ _ f4)).mp q; cases this) ?_
                    (repeat' (first | ((with_reducible refine And.intro ?_ ?_); omega)))
                    intro J5 e5; subst e5
                    (repeat' (first | ((with_reducible refine And.intro ?_ ?_); omega)))
                    refine br_y ((p1 _ (fr _ _ _ _ (fr _ _ _ _ f4))).mpr rfl) ?_
                    (repeat' (first | ((with_reducible refine And.intro ?_ ?_); omega)))
                    exact next _ (fr _ _ _ _ (fr _ _ _ _ f4)) (clU_at (a := a) (b := b) (kind := 2) (sort := 0) (n := n0) (cc c4 (by omega)) (by omega))
                  | true =>
                    have z0 := d0 n0 rfl
                    have z1 := d1 n1 rfl
                    refine br_n (by show ¬ (1000000 : Int) ≤ ((n0 : Nat) : Int); omega) ?_
                    (repeat' (first | ((with_reducible refine And.intro ?_ ?_); omega)))
                    refine br_n (by show ¬ (1000000 : Int) ≤ ((n1 : Nat) : Int); omega) ?_
                    dsimp only [oI]
                    (repeat' (first | ((with_reducible refine And.intro ?_ ?_); omega)))
                    intro J5 e5; subst e5
                    (repeat' (first | ((with_reducible refine And.intro ?_ ?_); omega)))
                    refine br_n (fun q => by have := (p0 _ (fr _ _ _ _ f4)).mp q; cases this) ?_
                    (repeat' (first | ((with_reducible refine And.intro ?_ ?_); omega)))
                    intro J5 e5; subst e5
                    (repeat' (first | ((with_reducible refine And.intro ?_ ?_); omega)))
                    refine br_n (fun q => by have := (p1 _ (fr _ _ _ _ (fr _ _ _ _ f4))).mp q; cases this) ?_
                    (repeat' (first | ((with_reducible refine And.intro ?_ ?_); omega)))
                    intro J5 e5; subst e5
                    (repeat' (first | ((with_reducible refine And.intro ?_ ?_); omega)))
                    exact next _ (fr _ _ _ _ (fr _ _ _ _ (fr _ _ _ _ f4))) (clU_at (a := a) (b := b) (kind := 2) (sort := 1) (n := n1) (clU_at (a := a) (b := b) (kind := 2) (sort := 0) (n := n0) (cc c4 (by omega)) (by omega)) (by omega))
        exact cols (39 - a) 0 J3 (by omega) f3 c3
    exact rows 40 0 _ (by omega) (fun x k q => up_ne (by omega)) up_self
  have inner : ∀ (o a : Nat) (J2 : Jm), o < 2 → a < 40 → (∀ x k, x ≠ 345 → x ≠ 346 → J2 x k = J1 x k) → (∀ J3 : Jm, (∀ x k, x ≠ 345 → x ≠ 346 → J3 x k = J1 x k) → (∀ p, ¬ (1600 * o + 40 * a ≤ p ∧ p < 1600 * o + 40 * a + 40) → J3 346 p = J2 346 p) → (∀ b, b < 40 → J3 346 (1600 * o + 40 * a + b) = oI (dstM J known o a b) ∧ ∀ n, dstM J known o a b = some n → n < 40) → V w 4 mX5_findClash 14 [some (vR 313), none, some (vI (o : Int)), some (vI ((a + 1 : Nat) : Int)), none, none, none] [] S J3 Q) → V w 4 mX5_findClash 14 [some (vR 313), none, some (vI (o : Int)), some (vI (a : Int)), none, none, none] [] S J2 Q := by
    intro o a J2 ho ha f2 KK
    refine gX5_findClash_14 (J := J2) hL o a (br_n (by omega) ⟨by omega, by omega, h01 J2 (fun p => f2 _ _ (by decide) (by decide)), fun J3 hf => ?_⟩)
    obtain ⟨f3, hfar⟩ := hf
    rw [Int.toNat_natCast, Int.toNat_natCast, lkE_eq J2 (fun p => f2 _ _ (by decide) (by decide)) o ho] at hfar
    have go := up_loop (P := fun b J4 => (∀ x k, x ≠ 346 → J4 x k = J3 x k) ∧ (∀ p, ¬ (1600 * o + 40 * a ≤ p ∧ p < 1600 * o + 40 * a + b) → J4 346 p = J2 346 p) ∧ (∀ b', b' < b → J4 346 (1600 * o + 40 * a + b') = oI (dstM J known o a b'))) 40
      (fun b J4 => V w 4 mX5_findClash 29 [some (vR 313), none, some (vI (o : Int)), some (vI (a : Int)), some (vI (b : Int)), none, none] [] S J4 Q) (by
        intro b J4 hb ⟨f4, g4, h4⟩ ih
        refine gX5_findClash_29 (J := J4) hL o a b (br_n (by omega) ?_)
        (repeat' (first | ((with_reducible refine And.intro ?_ ?_); omega)))
        refine ih _ ⟨fun x k q => by rw [up_na q, f4 x k q], fun p q => ?_, fun b' hb' => ?_⟩
        · rw [up_nk (by omega), g4 p (by omega)]
        · by_cases e : b' = b
          · subst e
            rw [up_self, f4 _ _ (by decide)]
            exact (hfar.d (by omega)).1
          · rw [up_nk (by omega), h4 b' (by omega)]) (by
        intro J4 ⟨f4, g4, h4⟩
        refine gX5_findClash_29 (J := J4) hL o a 40 (br_y (by omega) ?_)
        (repeat' (first | ((with_reducible refine And.intro ?_ ?_); omega)))
        exact KK J4 (fun x k q1 q2 => by rw [f4 x k q2, f3 x k q1, f2 x k q1 q2]) g4 (fun b hb => ⟨h4 b hb, (hfar.d hb).2⟩))
    exact go 0 J3 (by omega) ⟨fun _ _ _ => rfl, fun p _ => f3 _ _ (by decide), fun b' h => absurd h (by omega)⟩
  refine up_loop (P := fun o J2 => (∀ x k, x ≠ 345 → x ≠ 346 → J2 x k = J1 x k) ∧ (∀ o' a b, o' < o → a < 40 → b < 40 → J2 346 (1600 * o' + 40 * a + b) = oI (dstM J known o' a b) ∧ ∀ n, dstM J known o' a b = some n → n < 40)) 2
    (fun o J2 => V w 4 mX5_findClash 7 [some (vR 313), none, some (vI (o : Int)), none, none, none, none] [] S J2 Q) ?_ ?_ 0 J1 (by omega) ⟨fun _ _ _ _ => rfl, fun o' a b h => absurd h (by omega)⟩
  · intro o J2 ho ⟨f2, h2⟩ ih
    refine gX5_findClash_7 (J := J2) hL o (br_n (by omega) ?_)
    refine up_loop (P := fun a J3 => (∀ x k, x ≠ 345 → x ≠ 346 → J3 x k = J1 x k) ∧ (∀ p, p < 1600 * o → J3 346 p = J2 346 p) ∧ (∀ a' b, a' < a → b < 40 → J3 346 (1600 * o + 40 * a' + b) = oI (dstM J known o a' b) ∧ ∀ n, dstM J known o a' b = some n → n < 40)) 40
      (fun a J3 => V w 4 mX5_findClash 14 [some (vR 313), none, some (vI (o : Int)), some (vI (a : Int)), none, none, none] [] S J3 Q) ?_ ?_ 0 J2 (by omega) ⟨f2, fun _ _ => rfl, fun a' b h => absurd h (by omega)⟩
    · intro a J3 ha ⟨f3, g3, h3⟩ ih3
      refine inner o a J3 ho ha f3 (fun J4 f4 g4 h4 => ih3 J4 ⟨f4, fun p hp => ?_, fun a' b ha' hb => ?_⟩)
      · rw [g4 p (by omega), g3 p hp]
      · by_cases e : a' = a
        · subst e; exact h4 b hb
        · rw [g4 _ (by omega)]
          exact h3 a' b (by omega) hb
    · intro J3 ⟨f3, g3, h3⟩
      refine gX5_findClash_14 (J := J3) hL o 40 (br_y (by omega) ?_)
      (repeat' (first | ((with_reducible refine And.intro ?_ ?_); omega)))
      refine ih J3 ⟨f3, fun o' a b ho' ha hb => ?_⟩
      by_cases e : o' = o
      · subst e; exact h3 a b ha hb
      · rw [g3 _ (by omega)]
        exact h2 o' a b (by omega) ha hb
  · intro J2 ⟨f2, h2⟩
    refine gX5_findClash_7 (J := J2) hL 2 (br_y (by omega) ?_)
    exact last J2 f2 (fun o a b ho ha hb => (h2 o a b ho ha hb).1) (fun o a b n ho ha hb => (h2 o a b ho ha hb).2 n)
