/-! GridRoom: the view of a day -/
set_option maxRecDepth 100000
theorem gX6_counts_0_7 {w : Wd} {S : Sh} {J : Jm} {Q : Out → Sh → Jm → Prop} (hL : Lay S) (p : Nat) (known : Int)
    (K : (Sh.tg S p = 7) ∧ Br (known < J p 0) (Q (.inl (some (vI 0))) S J) (Br (J p 1 ≤ known) (Q (.inl (some (vI 0))) S J) (Q (.inl (some (vI 1))) S J))) :
    V w 0 mX6_counts 0 (ent mX6_counts [vR p, vI known]) [] S J Q := by
  show V w 0 mX6_counts 0 [some (vR p), some (vI known)] [] S J Q
  refine v_shp (fun hs0 => ?_)
  refine v_aload_n dX6_counts_0 rfl ?_
  obtain ⟨o1, K⟩ := K
  refine v_getI dX6_counts_1 frX6_16_7 rfl rfl o1 ?_
  refine v_iload_n dX6_counts_4 rfl ?_
  obtain ⟨K1, K2⟩ := K
  refine v_icmp_gt 20 dX6_counts_5 (by decide) (fun c1 => ?_) (fun c1 => ?_)
  · have K := K1 c1
    refine v_iconst dX6_counts_20 (in_lit (by decide)) ?_
    exact v_iret dX6_counts_21 rfl (by decide) K
  · have K := K2 c1
    refine v_aload_n dX6_counts_8 rfl ?_
    refine v_getI dX6_counts_9 frX6_10_7 rfl rfl o1 ?_
    refine v_iload_n dX6_counts_12 rfl ?_
    obtain ⟨K1, K2⟩ := K
    refine v_icmp_le 20 dX6_counts_13 (by decide) (fun c2 => ?_) (fun c2 => ?_)
    · have K := K1 c2
      refine v_iconst dX6_counts_20 (in_lit (by decide)) ?_
      exact v_iret dX6_counts_21 rfl (by decide) K
    · have K := K2 c2
      refine v_iconst dX6_counts_16 (in_lit (by decide)) ?_
      refine v_goto 21 dX6_counts_17 (by decide) ?_
      exact v_iret dX6_counts_21 rfl (by decide) K

theorem s_counts7 {w : Wd} {S : Sh} {J : Jm} {Q : Out → Sh → Jm → Prop} (hL : Lay S) (p : Nat) (known : Int) (ht : S.tg p = 7) (K1 : (J p 0 ≤ known ∧ known < J p 1) → Q (.inl (some (vI 1))) S J) (K2 : ¬ (J p 0 ≤ known ∧ known < J p 1) → Q (.inl (some (vI 0))) S J) : V w 0 mX6_counts 0 (ent mX6_counts [vR p, vI known]) [] S J Q := by
  refine gX6_counts_0_7 hL p known ⟨ht, br_i (fun c => K2 (by omega)) (fun c => br_i (fun c2 => K2 (by omega)) (fun c2 => K1 (by omega)))⟩
theorem gX3_be_0 {w : Wd} {S : Sh} {J : Jm} {Q : Out → Sh → Jm → Prop} (hL : Lay S) (day : Int)
    (K : ∀ (S1 : Sh), S1 = upR S 84 6 (some 73) → V w 3 mX3_be 18 [some (vR 84), some (vI day), some (vI 0), none, none] [] S1 (up J 84 5 day) Q) :
    V w 3 mX3_be 0 (ent mX3_be [vR 84, vI day]) [] S J Q := by
  show V w 3 mX3_be 0 [some (vR 84), some (vI day), none, none, none] [] S J Q
  refine v_shp (fun hs0 => ?_)
  refine v_aload_n dX3_be_0 rfl ?_
  refine v_iload_n dX3_be_1 rfl ?_
  refine v_putI dX3_be_2 frX3_58_3 (fun _ _ _ h => by cases h; exact Or.inl rfl) rfl rfl zfit_int (L_84 hL).1 ?_
  show V w 3 mX3_be 5 [some (vR 84), some (vI day), none, none, none] [] S (up J 84 5 day) Q
  refine v_aload_n dX3_be_5 rfl ?_
  refine v_aload_n dX3_be_6 rfl ?_
  refine v_getR dX3_be_7 frX3_3_3 rfl (L_84 hL).1 (LR_84_22 hL) (Or.inl rfl) ?_
  refine v_getR dX3_be_10 frX3_62_1 rfl (L_64 hL).1 (LR_64_5 hL) (Or.inl rfl) ?_
  refine v_putR dX3_be_13 frX3_66_3 (fun _ _ _ h => by cases h; exact Or.inl rfl) rfl (L_84 hL).1 (fun q => by cases q) ?_
  have hLn : Lay (upR S 84 6 (some 73)) := lay_up hL (by decide) (by decide) (by decide)
  obtain ⟨S1, eS1⟩ : ∃ X, X = upR S 84 6 (some 73) := ⟨_, rfl⟩
  rw [← eS1] at hLn ⊢
  have hL := hLn; clear hLn
  have K := K S1 eS1
  have xS1 : Ex S S1 := by rw [eS1]; exact Ex.up
  refine v_shp (fun hsS1 => ?_)
  show V w 3 mX3_be 16 [some (vR 84), some (vI day), none, none, none] [] S1 (up J 84 5 day) Q
  refine v_iconst dX3_be_16 (in_lit (by decide)) ?_
  refine v_istore_n dX3_be_17 (Nat.le_of_ble_eq_true rfl) ?_
  show V w 3 mX3_be 18 [some (vR 84), some (vI day), some (vI 0), none, none] [] S1 (up J 84 5 day) Q
  exact K
theorem gX3_be_18 {w : Wd} {S : Sh} {J : Jm} {Q : Out → Sh → Jm → Prop} (hL : Lay S) (day : Int) (k : Nat)
    (K : Br (J 67 2 ≤ ((k : Nat) : Int)) (V w 2 mX3_stand 0 (ent mX3_stand [vR 84]) [] S J (CallQ w 3 mX3_be 78 [some (vR 84), some (vI day), some (vI ((k : Nat) : Int)), none, none] [] Q)) ((GetOk S J 67 ((k : Nat) : Int)) ∧ (Sh.tg S (eA S 67 (((k : Nat) : Int)).toNat) = 2) ∧ Br (day < J (eA S 67 (((k : Nat) : Int)).toNat) 1) ((-2147483648 ≤ ((k : Nat) : Int) + 1 ∧ ((k : Nat) : Int) + 1 ≤ 2147483647) ∧ V w 3 mX3_be 18 [some (vR 84), some (vI day), some (vI ((k + 1 : Nat) : Int)), none, none] [] S J Q) (∀ (S1 : Sh), S1 = upR S 84 6 (some (eA S 67 (((k : Nat) : Int)).toNat)) → (-2147483648 ≤ ((k : Nat) : Int) + 1 ∧ ((k : Nat) : Int) + 1 ≤ 2147483647) ∧ V w 3 mX3_be 18 [some (vR 84), some (vI day), some (vI ((k + 1 : Nat) : Int)), none, none] [] S1 J Q))) :
    V w 3 mX3_be 18 [some (vR 84), some (vI day), some (vI ((k : Nat) : Int)), none, none] [] S J Q := by
  refine v_shp (fun hs0 => ?_)
  refine v_iload_n dX3_be_18 rfl ?_
  refine v_aload_n dX3_be_19 rfl ?_
  refine v_getR dX3_be_20 frX3_3_3 rfl (L_84 hL).1 (LR_84_22 hL) (Or.inl rfl) ?_
  refine v_getR dX3_be_23 frX3_69_1 rfl (L_64 hL).1 (LR_64_2 hL) (Or.inl rfl) ?_
  refine v_callV (d' := 0) (rest := [vI ((k : Nat) : Int)]) [] dX3_be_26 vrX3_73_24 (L_67 hL).1 rfl rfl one_nil (Nat.le_of_ble_eq_true rfl) (Nat.le_of_ble_eq_true rfl) (Nat.le_of_ble_eq_true rfl) ?_
  refine s_size hL 67 (L_67 hL).1 ?_
  show V w 3 mX3_be 29 [some (vR 84), some (vI day), some (vI ((k : Nat) : Int)), none, none] [vI (J 67 2), vI ((k : Nat) : Int)] S J Q
  obtain ⟨K1, K2⟩ := K
  refine v_icmp_ge 77 dX3_be_29 (by decide) (fun c1 => ?_) (fun c1 => ?_)
  · have K := K1 c1
    refine v_aload_n dX3_be_77 rfl ?_
    refine v_callV (d' := 2) (rest := []) [] dX3_be_78 vrX3_87_3 (L_84 hL).1 rfl rfl one_nil (Nat.le_of_ble_eq_true rfl) (Nat.le_of_ble_eq_true rfl) (Nat.le_of_ble_eq_true rfl) ?_
    exact K
  · have K := K2 c1
    refine v_aload_n dX3_be_32 rfl ?_
    refine v_getR dX3_be_33 frX3_3_3 rfl (L_84 hL).1 (LR_84_22 hL) (Or.inl rfl) ?_
    refine v_getR dX3_be_36 frX3_69_1 rfl (L_64 hL).1 (LR_64_2 hL) (Or.inl rfl) ?_
    refine v_iload_n dX3_be_39 rfl ?_
    refine v_callV (d' := 2) (rest := []) [vI ((k : Nat) : Int)] dX3_be_40 vrX3_78_24 (L_67 hL).1 rfl rfl (one_I one_nil) (Nat.le_of_ble_eq_true rfl) (Nat.le_of_ble_eq_true rfl) (Nat.le_of_ble_eq_true rfl) ?_
    obtain ⟨o1, K⟩ := K
    refine s_get hL 67 ((k : Nat) : Int) o1 ?_
    show V w 3 mX3_be 43 [some (vR 84), some (vI day), some (vI ((k : Nat) : Int)), none, none] [vR (eA S 67 (((k : Nat) : Int)).toNat)] S J Q
    obtain ⟨o2, K⟩ := K
    refine v_castE dX3_be_43 q1029 o2 rfl ?_
    refine v_getI dX3_be_46 frX3_84_2 rfl rfl o2 ?_
    refine v_iload_n dX3_be_49 rfl ?_
    obtain ⟨K1, K2⟩ := K
    refine v_icmp_gt 71 dX3_be_50 (by decide) (fun c2 => ?_) (fun c2 => ?_)
    · have K := K1 c2
      obtain ⟨o3, K⟩ := K
      refine v_iinc dX3_be_71 rfl o3 ?_
      show V w 3 mX3_be 74 [some (vR 84), some (vI day), some (vI ((k + 1 : Nat) : Int)), none, none] [] S J Q
      refine v_goto 18 dX3_be_74 (by decide) ?_
      exact K
    · have K := K2 c2
      refine v_aload_n dX3_be_53 rfl ?_
      refine v_aload_n dX3_be_54 rfl ?_
      refine v_getR dX3_be_55 frX3_3_3 rfl (L_84 hL).1 (LR_84_22 hL) (Or.inl rfl) ?_
      refine v_getR dX3_be_58 frX3_69_1 rfl (L_64 hL).1 (LR_64_2 hL) (Or.inl rfl) ?_
      refine v_iload_n dX3_be_61 rfl ?_
      refine v_callV (d' := 2) (rest := [vR 84]) [vI ((k : Nat) : Int)] dX3_be_62 vrX3_78_24 (L_67 hL).1 rfl rfl (one_I one_nil) (Nat.le_of_ble_eq_true rfl) (Nat.le_of_ble_eq_true rfl) (Nat.le_of_ble_eq_true rfl) ?_
      refine s_get hL 67 ((k : Nat) : Int) o1 ?_
      show V w 3 mX3_be 65 [some (vR 84), some (vI day), some (vI ((k : Nat) : Int)), none, none] [vR (eA S 67 (((k : Nat) : Int)).toNat), vR 84] S J Q
      refine v_castE dX3_be_65 q1029 o2 rfl ?_
      refine v_putR dX3_be_68 frX3_66_3 (fun _ _ _ h => by cases h; exact Or.inl rfl) rfl (L_84 hL).1 (fun q => by cases q) ?_
      have hLn : Lay (upR S 84 6 (some (eA S 67 (((k : Nat) : Int)).toNat))) := lay_up hL (by decide) (by decide) (by decide)
      obtain ⟨S1, eS1⟩ : ∃ X, X = upR S 84 6 (some (eA S 67 (((k : Nat) : Int)).toNat)) := ⟨_, rfl⟩
      rw [← eS1] at hLn ⊢
      have hL := hLn; clear hLn
      have K := K S1 eS1
      have xS1 : Ex S S1 := by rw [eS1]; exact Ex.up
      refine v_shp (fun hsS1 => ?_)
      show V w 3 mX3_be 71 [some (vR 84), some (vI day), some (vI ((k : Nat) : Int)), none, none] [] S1 J Q
      obtain ⟨o4, K⟩ := K
      refine v_iinc dX3_be_71 rfl o4 ?_
      show V w 3 mX3_be 74 [some (vR 84), some (vI day), some (vI ((k + 1 : Nat) : Int)), none, none] [] S1 J Q
      refine v_goto 18 dX3_be_74 (by decide) ?_
      exact K
theorem gX3_be_88 {w : Wd} {S : Sh} {J : Jm} {Q : Out → Sh → Jm → Prop} (hL : Lay S) (day : Int) (t : Nat)
    (K : Br (J 65 2 ≤ ((t : Nat) : Int)) (Q (.inl (some (vR 84))) S J) ((GetOk S J 65 ((t : Nat) : Int)) ∧ (Sh.tg S (eA S 65 (((t : Nat) : Int)).toNat) = 7) ∧ V w 3 mX3_be 120 [some (vR 84), some (vI day), some (vI ((t : Nat) : Int)), some (vR (eA S 65 (((t : Nat) : Int)).toNat)), some (vI 0)] [] S J Q)) :
    V w 3 mX3_be 88 [some (vR 84), some (vI day), some (vI ((t : Nat) : Int)), none, none] [] S J Q := by
  refine v_shp (fun hs0 => ?_)
  refine v_iload_n dX3_be_88 rfl ?_
  refine v_aload_n dX3_be_89 rfl ?_
  refine v_getR dX3_be_90 frX3_3_3 rfl (L_84 hL).1 (LR_84_22 hL) (Or.inl rfl) ?_
  refine v_getR dX3_be_93 frX3_93_1 rfl (L_64 hL).1 (LR_64_1 hL) (Or.inl rfl) ?_
  refine v_callV (d' := 0) (rest := [vI ((t : Nat) : Int)]) [] dX3_be_96 vrX3_73_24 (L_65 hL).1 rfl rfl one_nil (Nat.le_of_ble_eq_true rfl) (Nat.le_of_ble_eq_true rfl) (Nat.le_of_ble_eq_true rfl) ?_
  refine s_size hL 65 (L_65 hL).1 ?_
  show V w 3 mX3_be 99 [some (vR 84), some (vI day), some (vI ((t : Nat) : Int)), none, none] [vI (J 65 2), vI ((t : Nat) : Int)] S J Q
  obtain ⟨K1, K2⟩ := K
  refine v_icmp_ge 161 dX3_be_99 (by decide) (fun c1 => ?_) (fun c1 => ?_)
  · have K := K1 c1
    refine v_aload_n dX3_be_161 rfl ?_
    exact v_aret dX3_be_162 rfl rfl K
  · have K := K2 c1
    refine v_aload_n dX3_be_102 rfl ?_
    refine v_getR dX3_be_103 frX3_3_3 rfl (L_84 hL).1 (LR_84_22 hL) (Or.inl rfl) ?_
    refine v_getR dX3_be_106 frX3_93_1 rfl (L_64 hL).1 (LR_64_1 hL) (Or.inl rfl) ?_
    refine v_iload_n dX3_be_109 rfl ?_
    refine v_callV (d' := 2) (rest := []) [vI ((t : Nat) : Int)] dX3_be_110 vrX3_78_24 (L_65 hL).1 rfl rfl (one_I one_nil) (Nat.le_of_ble_eq_true rfl) (Nat.le_of_ble_eq_true rfl) (Nat.le_of_ble_eq_true rfl) ?_
    obtain ⟨o1, K⟩ := K
    refine s_get hL 65 ((t : Nat) : Int) o1 ?_
    show V w 3 mX3_be 113 [some (vR 84), some (vI day), some (vI ((t : Nat) : Int)), none, none] [vR (eA S 65 (((t : Nat) : Int)).toNat)] S J Q
    obtain ⟨o2, K⟩ := K
    refine v_castE dX3_be_113 q1044 o2 rfl ?_
    refine v_astore_n dX3_be_116 (Nat.le_of_ble_eq_true rfl) ?_
    show V w 3 mX3_be 117 [some (vR 84), some (vI day), some (vI ((t : Nat) : Int)), some (vR (eA S 65 (((t : Nat) : Int)).toNat)), none] [] S J Q
    refine v_iconst dX3_be_117 (in_lit (by decide)) ?_
    refine v_istore dX3_be_118 (Nat.le_of_ble_eq_true rfl) ?_
    show V w 3 mX3_be 120 [some (vR 84), some (vI day), some (vI ((t : Nat) : Int)), some (vR (eA S 65 (((t : Nat) : Int)).toNat)), some (vI 0)] [] S J Q
    exact K
theorem gX3_be_120 {w : Wd} {S : Sh} {J : Jm} {Q : Out → Sh → Jm → Prop} (hL : Lay S) (day : Int) (t : Nat) (x : Nat) (u : Nat)
    (K : (Sh.tg S x = 7) ∧ ∃ r2 : Nat, Sh.rf S x 2 = some r2 ∧ (Sh.tg S r2 = 36) ∧ Br (((Sh.ln S r2 : Nat) : Int) ≤ ((u : Nat) : Int)) ((-2147483648 ≤ ((t : Nat) : Int) + 1 ∧ ((t : Nat) : Int) + 1 ≤ 2147483647) ∧ V w 3 mX3_be 88 [some (vR 84), some (vI day), some (vI ((t + 1 : Nat) : Int)), none, none] [] S J Q) (Br (J x 0 ≤ day ∧ day < J x 1) (∃ r5 : Nat, Sh.rf S x 2 = some r5 ∧ (Sh.tg S r5 = 36) ∧ (((u : Nat) : Int) < ((Sh.ln S r5 : Nat) : Int)) ∧ ∃ r8 : Nat, Sh.rf S r5 u = some r8 ∧ V w 1 mX3_adds 0 (ent mX3_adds [vR 84, vR r8]) [] S J (CallQ w 3 mX3_be 146 [some (vR 84), some (vI day), some (vI ((t : Nat) : Int)), some (vR x), some (vI ((u : Nat) : Int))] [] Q)) ((-2147483648 ≤ ((t : Nat) : Int) + 1 ∧ ((t : Nat) : Int) + 1 ≤ 2147483647) ∧ V w 3 mX3_be 88 [some (vR 84), some (vI day), some (vI ((t + 1 : Nat) : Int)), none, none] [] S J Q))) :
    V w 3 mX3_be 120 [some (vR 84), some (vI day), some (vI ((t : Nat) : Int)), some (vR x), some (vI ((u : Nat) : Int))] [] S J Q := by
  refine v_shp (fun hs0 => ?_)
  refine v_iload dX3_be_120 rfl ?_
  refine v_aload_n dX3_be_122 rfl ?_
  obtain ⟨o1, K⟩ := K
  obtain ⟨r2, er2, K⟩ := K
  refine v_getR dX3_be_123 frX3_98_7 rfl o1 er2 (Or.inr (fun q => by cases q)) ?_
  obtain ⟨o3, K⟩ := K
  refine v_alen dX3_be_126 (by rw [o3]; rfl) ?_
  show V w 3 mX3_be 127 [some (vR 84), some (vI day), some (vI ((t : Nat) : Int)), some (vR x), some (vI ((u : Nat) : Int))] [vI ((Sh.ln S r2 : Nat) : Int), vI ((u : Nat) : Int)] S J Q
  obtain ⟨K1, K2⟩ := K
  refine v_icmp_ge 155 dX3_be_127 (by decide) (fun c1 => ?_) (fun c1 => ?_)
  · have K := K1 c1
    obtain ⟨o4, K⟩ := K
    refine v_iinc dX3_be_155 rfl o4 ?_
    show V w 3 mX3_be 158 [some (vR 84), some (vI day), some (vI ((t + 1 : Nat) : Int)), some (vR x), some (vI ((u : Nat) : Int))] [] S J Q
    refine v_goto 88 dX3_be_158 (by decide) ?_
    exact v_forget (fg_some (fg_some (fg_some (fg_none (fg_none fg_nil))))) K
  · have K := K2 c1
    refine v_aload_n dX3_be_130 rfl ?_
    refine v_iload_n dX3_be_131 rfl ?_
    refine v_callU (d' := 0) (rest := []) [vI day] dX3_be_132 urX3_101_7 o1 rfl rfl (one_I one_nil) (Nat.le_of_ble_eq_true rfl) (Nat.le_of_ble_eq_true rfl) (Nat.le_of_ble_eq_true rfl) ?_
    obtain ⟨K1, K2⟩ := K
    refine s_counts7 hL x day o1 (fun c2 => ?_) (fun c2 => ?_)
    · have K := K1 c2
      show V w 3 mX3_be 135 [some (vR 84), some (vI day), some (vI ((t : Nat) : Int)), some (vR x), some (vI ((u : Nat) : Int))] [vI 1] S J Q
      refine v_if_eq 155 dX3_be_135 (by decide) (fun cQ => absurd cQ (by decide)) (fun _ => ?_)
      refine v_aload_n dX3_be_138 rfl ?_
      refine v_aload_n dX3_be_139 rfl ?_
      obtain ⟨r5, er5, K⟩ := K
      refine v_getR dX3_be_140 frX3_98_7 rfl o1 er5 (Or.inr (fun q => by cases q)) ?_
      refine v_iload dX3_be_143 rfl ?_
      obtain ⟨o6, K⟩ := K
      obtain ⟨o7, K⟩ := K
      obtain ⟨r8, er8, K⟩ := K
      refine v_aald dX3_be_145 (by rw [o6]; rfl) rfl (by omega) o7 er8 ?_
      show V w 3 mX3_be 146 [some (vR 84), some (vI day), some (vI ((t : Nat) : Int)), some (vR x), some (vI ((u : Nat) : Int))] [vR r8, vR 84] S J Q
      refine v_callV (d' := 1) (rest := []) [vR r8] dX3_be_146 vrX3_105_3 (L_84 hL).1 rfl rfl (one_O one_nil) (Nat.le_of_ble_eq_true rfl) (Nat.le_of_ble_eq_true rfl) (Nat.le_of_ble_eq_true rfl) ?_
      exact K
    · have K := K2 c2
      show V w 3 mX3_be 135 [some (vR 84), some (vI day), some (vI ((t : Nat) : Int)), some (vR x), some (vI ((u : Nat) : Int))] [vI 0] S J Q
      refine v_if_eq 155 dX3_be_135 (by decide) (fun _ => ?_) (fun cQ => absurd cQ (by decide))
      obtain ⟨o9, K⟩ := K
      refine v_iinc dX3_be_155 rfl o9 ?_
      show V w 3 mX3_be 158 [some (vR 84), some (vI day), some (vI ((t + 1 : Nat) : Int)), some (vR x), some (vI ((u : Nat) : Int))] [] S J Q
      refine v_goto 88 dX3_be_158 (by decide) ?_
      exact v_forget (fg_some (fg_some (fg_some (fg_none (fg_none fg_nil))))) K
theorem gX3_be_81 {w : Wd} {S : Sh} {J : Jm} {Q : Out → Sh → Jm → Prop} (hL : Lay S) (day : Int)
    (K : V w 3 mX3_be 88 [some (vR 84), some (vI day), some (vI 0), none, none] [] S (up J 84 4 0) Q) :
    V w 3 mX3_be 81 [some (vR 84), some (vI day), none, none, none] [] S J Q := by
  refine v_shp (fun hs0 => ?_)
  refine v_aload_n dX3_be_81 rfl ?_
  refine v_iconst dX3_be_82 (in_lit (by decide)) ?_
  refine v_putI dX3_be_83 frX3_90_3 (fun _ _ _ h => by cases h; exact Or.inl rfl) rfl rfl zfit_int (L_84 hL).1 ?_
  show V w 3 mX3_be 86 [some (vR 84), some (vI day), none, none, none] [] S (up J 84 4 0) Q
  refine v_iconst dX3_be_86 (in_lit (by decide)) ?_
  refine v_istore_n dX3_be_87 (Nat.le_of_ble_eq_true rfl) ?_
  show V w 3 mX3_be 88 [some (vR 84), some (vI day), some (vI 0), none, none] [] S (up J 84 4 0) Q
  exact K
theorem gX3_be_149 {w : Wd} {S : Sh} {J : Jm} {Q : Out → Sh → Jm → Prop} (hL : Lay S) (day : Int) (t : Nat) (x : Nat) (u : Nat)
    (K : (-2147483648 ≤ ((u : Nat) : Int) + 1 ∧ ((u : Nat) : Int) + 1 ≤ 2147483647) ∧ V w 3 mX3_be 120 [some (vR 84), some (vI day), some (vI ((t : Nat) : Int)), some (vR x), some (vI ((u + 1 : Nat) : Int))] [] S J Q) :
    V w 3 mX3_be 149 [some (vR 84), some (vI day), some (vI ((t : Nat) : Int)), some (vR x), some (vI ((u : Nat) : Int))] [] S J Q := by
  refine v_shp (fun hs0 => ?_)
  obtain ⟨o1, K⟩ := K
  refine v_iinc dX3_be_149 rfl o1 ?_
  show V w 3 mX3_be 152 [some (vR 84), some (vI day), some (vI ((t : Nat) : Int)), some (vR x), some (vI ((u + 1 : Nat) : Int))] [] S J Q
  refine v_goto 120 dX3_be_152 (by decide) ?_
  exact K

/-- the memory with another law in the view -/
def VS (S S' : Sh) (lw : Nat) : Prop := S'.n = S.n ∧ S'.sl = S.sl ∧ S'.tg = S.tg ∧ S'.ln = S.ln ∧ S'.rf 84 6 = some lw ∧ ∀ a k, ¬ (a = 84 ∧ k = 6) → S'.rf a k = S.rf a k
theorem VS.put {S S1 : Sh} {l1 l2 : Nat} (h : VS S S1 l1) : VS S (upR S1 84 6 (some l2)) l2 := ⟨h.1, h.2.1, h.2.2.1, h.2.2.2.1, upR_self, fun a k q => by rw [upR_ne q]; exact h.2.2.2.2.2 a k q⟩
theorem VS.first {S : Sh} {l2 : Nat} : VS S (upR S 84 6 (some l2)) l2 := ⟨rfl, rfl, rfl, rfl, upR_self, fun a k q => upR_ne q⟩
theorem VS.ex {S S' : Sh} {l : Nat} (h : VS S S' l) : Ex S S' := ⟨by rw [h.1]; exact Nat.le_refl _, by rw [h.2.1]; exact Nat.le_refl _, fun a _ => ⟨by rw [h.2.2.1], by rw [h.2.2.2.1]⟩⟩
theorem VS.xkp {S S' : Sh} {l : Nat} {J J' : Jm} (h : VS S S' l) (hs : Shp S) (hL : Lay S') (hJ : ∀ a k, (a < 84 ∨ 313 ≤ a) → J' a k = J a k) : XKp S J S' J' := ⟨hL, h.ex, fun a k _ q => ⟨hJ a k q, h.2.2.2.2.2 a k (by omega)⟩, fun a ha e => by rw [h.2.2.1, hs a ha] at e; cases e⟩
/-- the rules that a day knows, as GridRoom has them -/
def lawA (S : Sh) (σ : Jm) (day : Int) (n : Nat) : Nat := if rbN σ day n = -1 then 73 else eA S 67 (rbN σ day n).toNat
/-- what be leaves -/
def FBe (J J' : Jm) : Prop := ∀ a k, ¬ (a = 84 ∧ (k = 4 ∨ k = 5)) → ¬ (85 ≤ a ∧ a ≤ 280) → J' a k = J a k
theorem told_cnt {g v c day : Int} (h : ToldG g v) (hd : day ≤ 100000) : (c ≤ day ∧ day < g) ↔ (c ≤ day ∧ day < v) := by
  rcases h with ⟨h1, h2⟩ | ⟨h1, h2⟩ <;> omega
theorem CpX.held {S : Sh} {J σ : Jm} (h : CpX S J σ) : HeldX J σ := by
  obtain ⟨-, ⟨h1, h2, h3, h4, h5, h6, h7, h8, h9, h10⟩, -⟩ := h
  exact ⟨h2, h7, h8⟩
theorem CpX.tab {S : Sh} {J σ : Jm} (h : CpX S J σ) : LsAt S J 65 ((List.range (J 65 2).toNat).map (eA S 65)) ∧ J 65 2 = σ 313 2 ∧ ∀ t : Nat, (t : Int) < σ 313 2 → GetOk S J 65 (t : Int) ∧ TabX S J (eA S 65 t) σ t := by
  obtain ⟨-, -, -, ⟨ts, h1, h2, h3, h4⟩, -⟩ := h
  have e : (List.range (J 65 2).toNat).map (eA S 65) = ts := by
    apply List.ext_getElem
    · rw [List.length_map, List.length_range, h1.2.2.1]; omega
    · intro i q1 q2
      rw [List.getElem_map, List.getElem_range, h1.el q2, List.getD_eq_getElem?_getD, List.getElem?_eq_getElem q2]
      rfl
  rw [e]
  refine ⟨h1, by rw [h1.2.2.1]; exact h2, fun t ht => ⟨h1.get (by omega), ?_⟩⟩
  rw [h1.el (by omega)]
  exact h4 t (by omega)
theorem CpX.rul {S : Sh} {J σ : Jm} (h : CpX S J σ) : J 67 2 = σ 313 8 ∧ ∀ t : Nat, (t : Int) < σ 313 8 → GetOk S J 67 (t : Int) ∧ RulX S J (eA S 67 t) σ t := by
  obtain ⟨-, -, -, -, ⟨rs, h1, h2, h4⟩, -⟩ := h
  refine ⟨by rw [h1.2.2.1]; exact h2, fun t ht => ⟨h1.get (by omega), ?_⟩⟩
  rw [h1.el (by omega)]
  exact h4 t (by omega)
/-- one more row, in both -/
theorem addL_addR {S : Sh} {J σ : Jm} {r q : Nat} (h : RowX S J r σ q) (st : Nat → Int) (L : List (List Int)) : addL st (rwX J r (S.ln r)) L = addR σ st L q := by
  obtain ⟨h1, h2, h3, h4⟩ := h
  have e1 : (rwX J r (S.ln r)).map (fun z => st z.toNat) = rowM σ st q := by
    unfold rwX rowM
    rw [List.map_map, ← h3, Int.toNat_natCast, mr_eq]
    exact ⟨rfl, fun i hi => by show st (J r i).toNat = _; rw [h4 i hi]⟩
  have e2 : (-1 ∈ rwX J r (S.ln r)) ↔ holeR σ q = true := by
    unfold rwX holeR
    rw [List.mem_map, List.any_eq_true, ← h3, Int.toNat_natCast]
    constructor
    · rintro ⟨i, q1, q2⟩
      refine ⟨i, q1, ?_⟩
      rw [beq_iff_eq, ← h4 i (List.mem_range.mp q1)]
      exact q2
    · rintro ⟨i, q1, q2⟩
      refine ⟨i, q1, ?_⟩
      rw [beq_iff_eq] at q2
      rw [h4 i (List.mem_range.mp q1)]
      exact q2
  unfold addL addR
  rw [e1]
  by_cases c : holeR σ q = true
  · rw [if_pos (e2.mpr c), if_pos c]
  · rw [if_neg (fun z => c (e2.mp z)), if_neg c]

/-- the view behind be -/
def PBe (S : Sh) (J σ : Jm) (day : Int) (S' : Sh) (J' : Jm) : Prop := Lay S' ∧ VS S S' (lawA S σ day (σ 313 8).toNat) ∧ FBe J J' ∧ J' 84 5 = day ∧ (∀ s : Nat, s < 40 → J' 85 s = stI σ day s) ∧ PWx J' (WH σ day)
theorem s_be {w : Wd} {S : Sh} {J : Jm} {Q : Out → Sh → Jm → Prop} (hL : Lay S) (day : Int) (σ : Jm) (hC : CpX S J σ) (hM : MHeld σ) (hT : MTab σ) (hX : MTxt σ) (hd : day ≤ 100000) (K : ∀ S' J', PBe S J σ day S' J' → Q (.inl (some (vR 84))) S' J') : V w 3 mX3_be 0 (ent mX3_be [vR 84, vI day]) [] S J Q := by
  refine v_shp (fun hs => ?_)
  obtain ⟨R, eR⟩ : ∃ m : Nat, σ 313 8 = m := ⟨(σ 313 8).toNat, by have := hX.1; omega⟩
  obtain ⟨T, eT⟩ : ∃ m : Nat, σ 313 2 = m := ⟨(σ 313 2).toNat, by have := hT.1; omega⟩
  have hR := hX.1
  have hT0 := hT.1
  -- behind the rules: signs and rows
  have rows : ∀ (S1 : Sh) (J1 : Jm), Lay S1 → VS S S1 (lawA S σ day R) → FBe J J1 → J1 84 5 = day → (∀ s : Nat, s < 40 → J1 85 s = stI σ day s) → PWx J1 [] → V w 3 mX3_be 88 [some (vR 84), some (vI day), some (vI ((0 : Nat) : Int)), none, none] [] S1 J1 Q := by
    intro S1 J1 l1 v1 fb1 d1 st1 w1
    have Lt : ∀ t : Nat, t ≤ T → (whN σ (stI σ day) day t).length ≤ 8 * t := fun t ht => whN_len hT _ _ t (by omega)
    refine up_loop (P := fun t J2 => FBe J J2 ∧ J2 84 5 = day ∧ (∀ s : Nat, s < 40 → J2 85 s = stI σ day s) ∧ PWx J2 (whN σ (stI σ day) day t)) T
      (fun t J2 => V w 3 mX3_be 88 [some (vR 84), some (vI day), some (vI (t : Int)), none, none] [] S1 J2 Q) ?_ ?_ 0 J1 (by omega) ⟨fb1, d1, st1, w1⟩
    · intro t J2 ht ⟨fb2, d2, st2, w2⟩ ih
      have xk : XKp S J S1 J2 := v1.xkp hs l1 (fun a k q => fb2 a k (by omega) (by omega))
      have c2 := hC.xkp xk hs hL
      obtain ⟨-, t1, t2⟩ := c2.tab
      obtain ⟨g1, tx⟩ := t2 t (by omega)
      obtain ⟨x1, x2, x3, x4, W, x5, y1, y2, y3, y4⟩ := id tx
      refine gX3_be_88 (J := J2) l1 day t (br_n (by omega) ?_)
      rw [Int.toNat_natCast]
      refine ⟨g1, x2, ?_⟩
      have ht2 := hT.2 t (by omega)
      obtain ⟨U, eU⟩ : ∃ m : Nat, σ 316 t = m := ⟨(σ 316 t).toNat, by omega⟩
      have hcnt := told_cnt (c := σ 314 t) x4 hd
      rw [← x3] at hcnt
      -- it counts or not
      have nxt : ∀ J3 : Jm, FBe J J3 → J3 84 5 = day → (∀ s : Nat, s < 40 → J3 85 s = stI σ day s) → PWx J3 (whN σ (stI σ day) day (t + 1)) → V w 3 mX3_be 88 [some (vR 84), some (vI day), some (vI ((t + 1 : Nat) : Int)), none, none] [] S1 J3 Q := fun J3 a1 a2 a3 a4 => ih J3 ⟨a1, a2, a3, a4⟩
      by_cases cn : J2 (eA S1 65 t) 0 ≤ day ∧ day < J2 (eA S1 65 t) 1
      · have etc : tcnt σ t day := by
          have := hcnt.mp cn
          rw [x3] at this
          exact this
        have ew : whN σ (stI σ day) day (t + 1) = whU σ (stI σ day) t (whN σ (stI σ day) day t) U := by
          rw [whN, if_pos etc, eU, Int.toNat_natCast]
        rw [ew] at nxt
        have hlen : ∀ u, u ≤ 8 → (whU σ (stI σ day) t (whN σ (stI σ day) day t) u).length ≤ 8 * t + u := by
          intro u
          induction u with
          | zero => intro _; exact Lt t (by omega)
          | succ u ih2 =>
            intro hu
            have h5 := addR_len σ (stI σ day) (whU σ (stI σ day) t (whN σ (stI σ day) day t) u) (8 * t + u)
            have h6 := ih2 (by omega)
            rw [whU]
            omega
        have go := up_loop (P := fun u J3 => FRw J2 J3 ∧ PWx J3 (whU σ (stI σ day) t (whN σ (stI σ day) day t) u)) U
          (fun u J3 => V w 3 mX3_be 120 [some (vR 84), some (vI day), some (vI (t : Int)), some (vR (eA S1 65 t)), some (vI (u : Int))] [] S1 J3 Q) (by
            intro u J3 hu ⟨f3, w3⟩ ihu
            have e3 : ∀ a k, 365 ≤ a → J3 a k = J2 a k := fun a k q => f3 a k (by omega) (by omega) (by omega)
            obtain ⟨r, r1, r2⟩ := y4 u (by omega)
            obtain ⟨z1, z2, z3, z4⟩ := id r2
            have hrow := ht2.2 u (by omega)
            have sp : ((S1.ln r : Nat) : Int) ≤ 6 := by rw [z3]; omega
            refine gX3_be_120 (J := J3) l1 day t (eA S1 65 t) u ?_
            refine ⟨x2, W, x5, y2, br_n (by omega) ?_⟩
            rw [e3 _ _ x1, e3 _ _ x1]
            refine br_y cn ⟨W, x5, y2, by omega, r, r1, ?_⟩
            have er : ∀ i, J3 r i = J2 r i := fun i => e3 r i z1
            refine s_addsX l1 r (stI σ day) _ z1 z2 (by omega) (fun i hi => ?_) (fun s hs2 => ?_) w3 (by have := hlen u (by omega); omega) (fun J4 f4 w4 => ?_)
            · rw [er, z4 i hi]
              exact hrow.2 i (by omega)
            · rw [f3 _ _ (by omega) (by omega) (by omega)]
              exact st2 s hs2
            · show V w 3 mX3_be 149 [some (vR 84), some (vI day), some (vI (t : Int)), some (vR (eA S1 65 t)), some (vI (u : Int))] [] S1 J4 Q
              refine gX3_be_149 (J := J4) l1 day t (eA S1 65 t) u ⟨by omega, ihu J4 ⟨f3.trans f4, ?_⟩⟩
              have e6 : rwX J3 r (S1.ln r) = rwX J2 r (S1.ln r) := by unfold rwX; simp only [er]
              rw [e6, addL_addR r2] at w4
              exact w4) (by
            intro J3 ⟨f3, w3⟩
            refine gX3_be_120 (J := J3) l1 day t (eA S1 65 t) U ⟨x2, W, x5, y2, br_y (by omega) ⟨by omega, ?_⟩⟩
            exact nxt J3 (fun a k q1 q2 => by rw [f3 a k (fun z => q1 ⟨z.1, .inl z.2⟩) (by omega) (by omega)]; exact fb2 a k q1 q2) (by rw [f3 _ _ (by decide) (by decide) (by decide)]; exact d2) (fun s hs2 => by rw [f3 _ _ (by omega) (by omega) (by omega)]; exact st2 s hs2) w3)
        exact go 0 J2 (by omega) ⟨fun _ _ _ _ _ => rfl, w2⟩
      · have etc : ¬ tcnt σ t day := fun q => cn (hcnt.mpr (by rw [x3]; exact q))
        have ew : whN σ (stI σ day) day (t + 1) = whN σ (stI σ day) day t := by rw [whN, if_neg etc]
        rw [ew] at nxt
        refine gX3_be_120 (J := J2) l1 day t (eA S1 65 t) 0 ⟨x2, W, x5, y2, br_n (by omega) (br_n cn ⟨by omega, nxt J2 fb2 d2 st2 w2⟩)⟩
    · intro J2 ⟨fb2, d2, st2, w2⟩
      have xk : XKp S J S1 J2 := v1.xkp hs l1 (fun a k q => fb2 a k (by omega) (by omega))
      obtain ⟨-, t1, -⟩ := (hC.xkp xk hs hL).tab
      refine gX3_be_88 (J := J2) l1 day T (br_y (by omega) ?_)
      have eW : WH σ day = whN σ (stI σ day) day T := by
        unfold WH whOf
        rw [eT, Int.toNat_natCast]
      refine K S1 J2 ⟨l1, by rw [eR, Int.toNat_natCast]; exact v1, fb2, d2, st2, by rw [eW]; exact w2⟩
  -- the rules
  refine gX3_be_0 hL day (fun S1 e1 => ?_)
  have lw0 : ∀ (S1 : Sh) (n : Nat), VS S S1 (lawA S σ day n) → Lay S1 → ∀ (v n : Nat) (S2 : Sh), n + v = R → Lay S2 → VS S S2 (lawA S σ day n) → V w 3 mX3_be 18 [some (vR 84), some (vI day), some (vI (n : Int)), none, none] [] S2 (up J 84 5 day) Q := by
    intro _ _ _ _ v
    induction v with
    | zero =>
      intro n S2 hn l2 v2
      obtain rfl : n = R := by omega
      have xk : XKp S J S2 (up J 84 5 day) := v2.xkp hs l2 (fun a k q => up_na (by omega))
      have c2 := hC.xkp xk hs hL
      obtain ⟨t1, -⟩ := c2.rul
      refine gX3_be_18 (J := up J 84 5 day) l2 day n (br_y (by omega) ?_)
      refine s_xstand l2 σ c2.held hM (fun J3 hp => ?_)
      rw [up_self] at hp
      show V w 3 mX3_be 81 [some (vR 84), some (vI day), some (vI (n : Int)), none, none] [] S2 J3 Q
      refine v_forget (ls' := [some (vR 84), some (vI day), none, none, none]) (fg_some (fg_some (fg_none (fg_none (fg_none fg_nil))))) ?_
      refine gX3_be_81 (J := J3) l2 day ?_
      refine rows S2 _ l2 v2 (fun a k q1 q2 => ?_) ?_ (fun s hs2 => ?_) ⟨up_self, fun i hi => absurd hi (Nat.not_lt_zero _)⟩
      · rw [up_ne (fun z => q1 ⟨z.1, .inl z.2⟩), hp.1 a k (by omega) (by omega), up_ne (fun z => q1 ⟨z.1, .inr z.2⟩)]
      · rw [up_nk (by decide), hp.1 _ _ (by decide) (by decide), up_self]
      · rw [up_na (by decide)]
        exact hp.2 s hs2
    | succ v ih =>
      intro n S2 hn l2 v2
      have xk : XKp S J S2 (up J 84 5 day) := v2.xkp hs l2 (fun a k q => up_na (by omega))
      have c2 := hC.xkp xk hs hL
      obtain ⟨t1, t2⟩ := c2.rul
      obtain ⟨g1, r1, r2, r3, -⟩ := t2 n (by omega)
      have ee : eA S2 67 n = eA S 67 n := by
        unfold eA
        obtain ⟨q1, -, A, q3, -⟩ := g1
        have q4 : S2.rf 67 1 = S.rf 67 1 := v2.2.2.2.2.2 _ _ (by decide)
        rw [q4] at q3 ⊢
        rw [q3]
        show (S2.rf A n).getD 0 = (S.rf A n).getD 0
        rw [v2.2.2.2.2.2 A n (fun z => ?_)]
        obtain ⟨-, -, A2, q5, q6, -⟩ := (t2 n (by omega)).1
        rw [q4, q3] at q5
        cases q5
        rw [z.1, (L_84 l2).1] at q6
        cases q6
      refine gX3_be_18 (J := up J 84 5 day) l2 day n (br_n (by omega) ?_)
      rw [Int.toNat_natCast, r3]
      refine ⟨g1, r2, br_i (fun c => ⟨by omega, ?_⟩) (fun c S3 e3 => ⟨by omega, ?_⟩)⟩
      · refine ih (n + 1) S2 (by omega) l2 ?_
        have : lawA S σ day (n + 1) = lawA S σ day n := by
          unfold lawA
          rw [show rbN σ day (n + 1) = rbN σ day n by rw [rbN, if_neg (by omega)]]
        rw [this]
        exact v2
      · refine ih (n + 1) S3 (by omega) (by rw [e3]; exact lay_up l2 (by decide) (by decide) (by decide)) ?_
        have : lawA S σ day (n + 1) = eA S2 67 n := by
          unfold lawA
          rw [show rbN σ day (n + 1) = (n : Int) by rw [rbN, if_pos (by omega)], if_neg (by omega), Int.toNat_natCast, ee]
        rw [this, e3]
        exact v2.put
  have l1 : Lay S1 := by rw [e1]; exact lay_up hL (by decide) (by decide) (by decide)
  have v1 : VS S S1 (lawA S σ day 0) := by rw [e1]; exact VS.first
  exact lw0 S1 0 v1 l1 R 0 S1 (by omega) l1 v1
