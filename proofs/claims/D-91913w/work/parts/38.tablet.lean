/-! the model: a tablet is read -/
set_option maxRecDepth 100000
theorem gX5_tablet_0 {w : Wd} {S : Sh} {J : Jm} {Q : Out → Sh → Jm → Prop} (hL : Lay S) 
    (K : Br (J 313 2 = 24) (Q (.inl (some (vI (-1)))) S (up J 313 0 0)) ((MTape (up J 313 0 0)) ∧ (∀ (J1 : Jm), PNx (up (up (up J 313 0 0) 313 21 0) 313 17 0) 0 J1 → V w 3 mX5_readRow 0 (ent mX5_readRow [vR 313]) [] S (up J1 316 24 0) (CallQ w 4 mX5_tablet 29 [some (vR 313), none, none, none, none] [] Q)))) :
    V w 4 mX5_tablet 0 (ent mX5_tablet [vR 313]) [] S J Q := by
  show V w 4 mX5_tablet 0 [some (vR 313), none, none, none, none] [] S J Q
  refine v_aload_n dX5_tablet_0 rfl ?_
  refine v_iconst dX5_tablet_1 (in_lit (by decide)) ?_
  refine v_putI dX5_tablet_2 frX5_1_5 (fun _ _ _ h => by cases h; exact Or.inl rfl) rfl rfl zfit_int (L_313 hL).1 ?_
  show V w 4 mX5_tablet 5 [some (vR 313), none, none, none, none] [] S (up J 313 0 0) Q
  refine v_aload_n dX5_tablet_5 rfl ?_
  refine v_getI dX5_tablet_6 frX5_243_5 rfl rfl (L_313 hL).1 ?_
  show V w 4 mX5_tablet 9 [some (vR 313), none, none, none, none] [vI (J 313 2)] S (up J 313 0 0) Q
  refine v_bipush dX5_tablet_9 (by decide) (in_lit (by decide)) ?_
  obtain ⟨K1, K2⟩ := K
  refine v_icmp_ne 16 dX5_tablet_11 (by decide) (fun c1 => ?_) (fun c1 => ?_)
  · have K := K2 c1
    refine v_aload_n dX5_tablet_16 rfl ?_
    refine v_callV (d' := 2) (rest := []) [] dX5_tablet_17 vrX5_246_5 (L_313 hL).1 rfl rfl one_nil (Nat.le_of_ble_eq_true rfl) (Nat.le_of_ble_eq_true rfl) (Nat.le_of_ble_eq_true rfl) ?_
    obtain ⟨o1, K⟩ := K
    refine s_starts hL  o1 (fun J1 hp => ?_)
    have K := K J1 hp
    show V w 4 mX5_tablet 20 [some (vR 313), none, none, none, none] [] S J1 Q
    refine v_aload_n dX5_tablet_20 rfl ?_
    refine v_getR dX5_tablet_21 frX5_20_5 rfl (L_313 hL).1 (LR_313_5 hL) (Or.inl rfl) ?_
    refine v_bipush dX5_tablet_24 (by decide) (in_lit (by decide)) ?_
    refine v_iconst dX5_tablet_26 (in_lit (by decide)) ?_
    refine st_316 dX5_tablet_27 hL (by omega) (by decide) ?_
    show V w 4 mX5_tablet 28 [some (vR 313), none, none, none, none] [] S (up J1 316 24 0) Q
    refine v_aload_n dX5_tablet_28 rfl ?_
    refine v_callV (d' := 3) (rest := []) [] dX5_tablet_29 vrX5_249_5 (L_313 hL).1 rfl rfl one_nil (Nat.le_of_ble_eq_true rfl) (Nat.le_of_ble_eq_true rfl) (Nat.le_of_ble_eq_true rfl) ?_
    exact K
  · have K := K1 c1
    refine v_iconst dX5_tablet_14 (in_lit (by decide)) ?_
    exact v_iret dX5_tablet_15 rfl rfl K
theorem gX5_tablet_32 {w : Wd} {S : Sh} {J : Jm} {Q : Out → Sh → Jm → Prop} (hL : Lay S) 
    (K : Br (J 313 21 = 0) (Br (J 313 19 = 0) ((0 ≤ J 313 21 ∧ J 313 21 ≤ 3) ∧ (∀ (r1 : Int) (J1 : Jm), PStop J r1 J1 → Br (0 ≤ r1) ((0 ≤ J1 313 2) ∧ (J1 313 2 < 25) ∧ V w 4 mX5_tablet 84 [some (vR 313), none, some (vI (J1 313 2)), some (vI 0), none] [] S (up J1 316 (J1 313 2).toNat (J1 316 24)) Q) (Q (.inl (some (vI r1))) S J1))) (V w 3 mX5_readRow 0 (ent mX5_readRow [vR 313]) [] S J (CallQ w 4 mX5_tablet 47 [some (vR 313), none, none, none, none] [] Q))) ((0 ≤ J 313 21 ∧ J 313 21 ≤ 3) ∧ (∀ (r2 : Int) (J2 : Jm), PStop J r2 J2 → Br (0 ≤ r2) ((0 ≤ J2 313 2) ∧ (J2 313 2 < 25) ∧ V w 4 mX5_tablet 84 [some (vR 313), none, some (vI (J2 313 2)), some (vI 0), none] [] S (up J2 316 (J2 313 2).toNat (J2 316 24)) Q) (Q (.inl (some (vI r2))) S J2)))) :
    V w 4 mX5_tablet 32 [some (vR 313), none, none, none, none] [] S J Q := by
  refine v_aload_n dX5_tablet_32 rfl ?_
  refine v_callV (d' := 0) (rest := []) [] dX5_tablet_33 vrX5_222_5 (L_313 hL).1 rfl rfl one_nil (Nat.le_of_ble_eq_true rfl) (Nat.le_of_ble_eq_true rfl) (Nat.le_of_ble_eq_true rfl) ?_
  obtain ⟨K1, K2⟩ := K
  refine sX5_isWell hL   (fun c1 => ?_) (fun c1 => ?_)
  · have K := K1 c1
    show V w 4 mX5_tablet 36 [some (vR 313), none, none, none, none] [vI 1] S J Q
    refine v_if_eq 53 dX5_tablet_36 (by decide) (fun cQ => absurd cQ (by decide)) (fun _ => ?_)
    refine v_aload_n dX5_tablet_39 rfl ?_
    refine v_getI dX5_tablet_40 frX5_189_5 rfl rfl (L_313 hL).1 ?_
    obtain ⟨K1, K2⟩ := K
    refine v_if_eq 53 dX5_tablet_43 (by decide) (fun c2 => ?_) (fun c2 => ?_)
    · have K := K1 c2
      refine v_aload_n dX5_tablet_53 rfl ?_
      refine v_callV (d' := 1) (rest := []) [] dX5_tablet_54 vrX5_252_5 (L_313 hL).1 rfl rfl one_nil (Nat.le_of_ble_eq_true rfl) (Nat.le_of_ble_eq_true rfl) (Nat.le_of_ble_eq_true rfl) ?_
      obtain ⟨o1, K⟩ := K
      refine s_stops hL  o1 (fun r1 J1 hp => ?_)
      have K := K r1 J1 hp
      show V w 4 mX5_tablet 57 [some (vR 313), none, none, none, none] [vI r1] S J1 Q
      refine v_istore_n dX5_tablet_57 (Nat.le_of_ble_eq_true rfl) ?_
      show V w 4 mX5_tablet 58 [some (vR 313), some (vI r1), none, none, none] [] S J1 Q
      refine v_iload_n dX5_tablet_58 rfl ?_
      obtain ⟨K1, K2⟩ := K
      refine v_if_ge 64 dX5_tablet_59 (by decide) (fun c3 => ?_) (fun c3 => ?_)
      · have K := K1 c3
        refine v_aload_n dX5_tablet_64 rfl ?_
        refine v_getI dX5_tablet_65 frX5_243_5 rfl rfl (L_313 hL).1 ?_
        refine v_istore_n dX5_tablet_68 (Nat.le_of_ble_eq_true rfl) ?_
        show V w 4 mX5_tablet 69 [some (vR 313), some (vI r1), some (vI (J1 313 2)), none, none] [] S J1 Q
        refine v_aload_n dX5_tablet_69 rfl ?_
        refine v_getR dX5_tablet_70 frX5_20_5 rfl (L_313 hL).1 (LR_313_5 hL) (Or.inl rfl) ?_
        refine v_iload_n dX5_tablet_73 rfl ?_
        refine v_aload_n dX5_tablet_74 rfl ?_
        refine v_getR dX5_tablet_75 frX5_20_5 rfl (L_313 hL).1 (LR_313_5 hL) (Or.inl rfl) ?_
        refine v_bipush dX5_tablet_78 (by decide) (in_lit (by decide)) ?_
        refine ld_316 dX5_tablet_80 hL (by omega) (by decide) ?_
        show V w 4 mX5_tablet 81 [some (vR 313), some (vI r1), some (vI (J1 313 2)), none, none] [vI (J1 316 24), vI (J1 313 2), vR 316] S J1 Q
        obtain ⟨o2, K⟩ := K
        obtain ⟨o3, K⟩ := K
        refine st_316 dX5_tablet_81 hL o2 o3 ?_
        show V w 4 mX5_tablet 82 [some (vR 313), some (vI r1), some (vI (J1 313 2)), none, none] [] S (up J1 316 (J1 313 2).toNat (J1 316 24)) Q
        refine v_iconst dX5_tablet_82 (in_lit (by decide)) ?_
        refine v_istore_n dX5_tablet_83 (Nat.le_of_ble_eq_true rfl) ?_
        show V w 4 mX5_tablet 84 [some (vR 313), some (vI r1), some (vI (J1 313 2)), some (vI 0), none] [] S (up J1 316 (J1 313 2).toNat (J1 316 24)) Q
        exact v_forget (fg_some (fg_none (fg_some (fg_some (fg_none fg_nil))))) K
      · have K := K2 c3
        refine v_iload_n dX5_tablet_62 rfl ?_
        exact v_iret dX5_tablet_63 rfl rfl K
    · have K := K2 c2
      refine v_aload_n dX5_tablet_46 rfl ?_
      refine v_callV (d' := 3) (rest := []) [] dX5_tablet_47 vrX5_249_5 (L_313 hL).1 rfl rfl one_nil (Nat.le_of_ble_eq_true rfl) (Nat.le_of_ble_eq_true rfl) (Nat.le_of_ble_eq_true rfl) ?_
      exact K
  · have K := K2 c1
    show V w 4 mX5_tablet 36 [some (vR 313), none, none, none, none] [vI 0] S J Q
    refine v_if_eq 53 dX5_tablet_36 (by decide) (fun _ => ?_) (fun cQ => absurd cQ (by decide))
    refine v_aload_n dX5_tablet_53 rfl ?_
    refine v_callV (d' := 1) (rest := []) [] dX5_tablet_54 vrX5_252_5 (L_313 hL).1 rfl rfl one_nil (Nat.le_of_ble_eq_true rfl) (Nat.le_of_ble_eq_true rfl) (Nat.le_of_ble_eq_true rfl) ?_
    obtain ⟨o4, K⟩ := K
    refine s_stops hL  o4 (fun r2 J2 hp => ?_)
    have K := K r2 J2 hp
    show V w 4 mX5_tablet 57 [some (vR 313), none, none, none, none] [vI r2] S J2 Q
    refine v_istore_n dX5_tablet_57 (Nat.le_of_ble_eq_true rfl) ?_
    show V w 4 mX5_tablet 58 [some (vR 313), some (vI r2), none, none, none] [] S J2 Q
    refine v_iload_n dX5_tablet_58 rfl ?_
    obtain ⟨K1, K2⟩ := K
    refine v_if_ge 64 dX5_tablet_59 (by decide) (fun c4 => ?_) (fun c4 => ?_)
    · have K := K1 c4
      refine v_aload_n dX5_tablet_64 rfl ?_
      refine v_getI dX5_tablet_65 frX5_243_5 rfl rfl (L_313 hL).1 ?_
      refine v_istore_n dX5_tablet_68 (Nat.le_of_ble_eq_true rfl) ?_
      show V w 4 mX5_tablet 69 [some (vR 313), some (vI r2), some (vI (J2 313 2)), none, none] [] S J2 Q
      refine v_aload_n dX5_tablet_69 rfl ?_
      refine v_getR dX5_tablet_70 frX5_20_5 rfl (L_313 hL).1 (LR_313_5 hL) (Or.inl rfl) ?_
      refine v_iload_n dX5_tablet_73 rfl ?_
      refine v_aload_n dX5_tablet_74 rfl ?_
      refine v_getR dX5_tablet_75 frX5_20_5 rfl (L_313 hL).1 (LR_313_5 hL) (Or.inl rfl) ?_
      refine v_bipush dX5_tablet_78 (by decide) (in_lit (by decide)) ?_
      refine ld_316 dX5_tablet_80 hL (by omega) (by decide) ?_
      show V w 4 mX5_tablet 81 [some (vR 313), some (vI r2), some (vI (J2 313 2)), none, none] [vI (J2 316 24), vI (J2 313 2), vR 316] S J2 Q
      obtain ⟨o5, K⟩ := K
      obtain ⟨o6, K⟩ := K
      refine st_316 dX5_tablet_81 hL o5 o6 ?_
      show V w 4 mX5_tablet 82 [some (vR 313), some (vI r2), some (vI (J2 313 2)), none, none] [] S (up J2 316 (J2 313 2).toNat (J2 316 24)) Q
      refine v_iconst dX5_tablet_82 (in_lit (by decide)) ?_
      refine v_istore_n dX5_tablet_83 (Nat.le_of_ble_eq_true rfl) ?_
      show V w 4 mX5_tablet 84 [some (vR 313), some (vI r2), some (vI (J2 313 2)), some (vI 0), none] [] S (up J2 316 (J2 313 2).toNat (J2 316 24)) Q
      exact v_forget (fg_some (fg_none (fg_some (fg_some (fg_none fg_nil))))) K
    · have K := K2 c4
      refine v_iload_n dX5_tablet_62 rfl ?_
      exact v_iret dX5_tablet_63 rfl rfl K
theorem gX5_tablet_84 {w : Wd} {S : Sh} {J : Jm} {Q : Out → Sh → Jm → Prop} (hL : Lay S) (t : Nat) (u : Nat)
    (K : Br (8 ≤ ((u : Nat) : Int)) ((((t : Nat) : Int) < 24) ∧ (-2147483648 ≤ (J 313 2) + 1 ∧ (J 313 2) + 1 ≤ 2147483647) ∧ Q (.inl (some (vI ((t : Nat) : Int)))) S (up (up (up J 314 t (J 313 1)) 315 t 1000000) 313 2 ((J 313 2) + 1))) ((-2147483648 ≤ 8 * ((t : Nat) : Int) ∧ 8 * ((t : Nat) : Int) ≤ 2147483647) ∧ (-2147483648 ≤ ((8 * t : Nat) : Int) + ((u : Nat) : Int) ∧ ((8 * t : Nat) : Int) + ((u : Nat) : Int) ≤ 2147483647) ∧ (-2147483648 ≤ 192 + ((u : Nat) : Int) ∧ 192 + ((u : Nat) : Int) ≤ 2147483647) ∧ (((192 + u : Nat) : Int) < 200) ∧ ((((8 * t) + u : Nat) : Int) < 200) ∧ V w 4 mX5_tablet 114 [some (vR 313), none, some (vI ((t : Nat) : Int)), some (vI ((u : Nat) : Int)), some (vI 0)] [] S (up J 317 ((8 * t) + u) (J 317 (192 + u))) Q)) :
    V w 4 mX5_tablet 84 [some (vR 313), none, some (vI ((t : Nat) : Int)), some (vI ((u : Nat) : Int)), none] [] S J Q := by
  refine v_iload_n dX5_tablet_84 rfl ?_
  refine v_bipush dX5_tablet_85 (by decide) (in_lit (by decide)) ?_
  obtain ⟨K1, K2⟩ := K
  refine v_icmp_ge 166 dX5_tablet_87 (by decide) (fun c1 => ?_) (fun c1 => ?_)
  · have K := K1 c1
    refine v_aload_n dX5_tablet_166 rfl ?_
    refine v_getR dX5_tablet_167 frX5_13_5 rfl (L_313 hL).1 (LR_313_3 hL) (Or.inl rfl) ?_
    refine v_iload_n dX5_tablet_170 rfl ?_
    refine v_aload_n dX5_tablet_171 rfl ?_
    refine v_getI dX5_tablet_172 frX5_173_5 rfl rfl (L_313 hL).1 ?_
    obtain ⟨o1, K⟩ := K
    refine st_314 dX5_tablet_175 hL (by omega) o1 ?_
    show V w 4 mX5_tablet 176 [some (vR 313), none, some (vI ((t : Nat) : Int)), some (vI ((u : Nat) : Int)), none] [] S (up J 314 t (J 313 1)) Q
    refine v_aload_n dX5_tablet_176 rfl ?_
    refine v_getR dX5_tablet_177 frX5_17_5 rfl (L_313 hL).1 (LR_313_4 hL) (Or.inl rfl) ?_
    refine v_iload_n dX5_tablet_180 rfl ?_
    refine v_ldc dX5_tablet_181 q1896 (z := 1000000) (by decide) ?_
    refine st_315 dX5_tablet_183 hL (by omega) o1 ?_
    show V w 4 mX5_tablet 184 [some (vR 313), none, some (vI ((t : Nat) : Int)), some (vI ((u : Nat) : Int)), none] [] S (up (up J 314 t (J 313 1)) 315 t 1000000) Q
    refine v_aload_n dX5_tablet_184 rfl ?_
    refine v_dup dX5_tablet_185 trivial ?_
    refine v_getI dX5_tablet_186 frX5_243_5 rfl rfl (L_313 hL).1 ?_
    show V w 4 mX5_tablet 189 [some (vR 313), none, some (vI ((t : Nat) : Int)), some (vI ((u : Nat) : Int)), none] [vI (J 313 2), vR 313] S (up (up J 314 t (J 313 1)) 315 t 1000000) Q
    refine v_iconst dX5_tablet_189 (in_lit (by decide)) ?_
    obtain ⟨o2, K⟩ := K
    refine v_iadd dX5_tablet_190 o2 ?_
    refine v_putI dX5_tablet_191 frX5_243_5 (fun _ _ _ h => by cases h; exact Or.inl rfl) rfl rfl zfit_int (L_313 hL).1 ?_
    show V w 4 mX5_tablet 194 [some (vR 313), none, some (vI ((t : Nat) : Int)), some (vI ((u : Nat) : Int)), none] [] S (up (up (up J 314 t (J 313 1)) 315 t 1000000) 313 2 ((J 313 2) + 1)) Q
    refine v_iload_n dX5_tablet_194 rfl ?_
    exact v_iret dX5_tablet_195 rfl rfl K
  · have K := K2 c1
    refine v_aload_n dX5_tablet_90 rfl ?_
    refine v_getR dX5_tablet_91 frX5_23_5 rfl (L_313 hL).1 (LR_313_6 hL) (Or.inl rfl) ?_
    refine v_bipush dX5_tablet_94 (by decide) (in_lit (by decide)) ?_
    refine v_iload_n dX5_tablet_96 rfl ?_
    obtain ⟨o3, K⟩ := K
    refine v_imul dX5_tablet_97 o3 ?_
    show V w 4 mX5_tablet 98 [some (vR 313), none, some (vI ((t : Nat) : Int)), some (vI ((u : Nat) : Int)), none] [vI ((8 * t : Nat) : Int), vR 317] S J Q
    refine v_iload_n dX5_tablet_98 rfl ?_
    obtain ⟨o4, K⟩ := K
    refine v_iadd dX5_tablet_99 o4 ?_
    show V w 4 mX5_tablet 100 [some (vR 313), none, some (vI ((t : Nat) : Int)), some (vI ((u : Nat) : Int)), none] [vI (((8 * t) + u : Nat) : Int), vR 317] S J Q
    refine v_aload_n dX5_tablet_100 rfl ?_
    refine v_getR dX5_tablet_101 frX5_23_5 rfl (L_313 hL).1 (LR_313_6 hL) (Or.inl rfl) ?_
    refine v_sipush dX5_tablet_104 (by decide) (in_lit (by decide)) ?_
    refine v_iload_n dX5_tablet_107 rfl ?_
    obtain ⟨o5, K⟩ := K
    refine v_iadd dX5_tablet_108 o5 ?_
    show V w 4 mX5_tablet 109 [some (vR 313), none, some (vI ((t : Nat) : Int)), some (vI ((u : Nat) : Int)), none] [vI ((192 + u : Nat) : Int), vR 317, vI (((8 * t) + u : Nat) : Int), vR 317] S J Q
    obtain ⟨o6, K⟩ := K
    refine ld_317 dX5_tablet_109 hL (by omega) o6 ?_
    show V w 4 mX5_tablet 110 [some (vR 313), none, some (vI ((t : Nat) : Int)), some (vI ((u : Nat) : Int)), none] [vI (J 317 (192 + u)), vI (((8 * t) + u : Nat) : Int), vR 317] S J Q
    obtain ⟨o7, K⟩ := K
    refine st_317 dX5_tablet_110 hL (by omega) o7 ?_
    show V w 4 mX5_tablet 111 [some (vR 313), none, some (vI ((t : Nat) : Int)), some (vI ((u : Nat) : Int)), none] [] S (up J 317 ((8 * t) + u) (J 317 (192 + u))) Q
    refine v_iconst dX5_tablet_111 (in_lit (by decide)) ?_
    refine v_istore dX5_tablet_112 (Nat.le_of_ble_eq_true rfl) ?_
    show V w 4 mX5_tablet 114 [some (vR 313), none, some (vI ((t : Nat) : Int)), some (vI ((u : Nat) : Int)), some (vI 0)] [] S (up J 317 ((8 * t) + u) (J 317 (192 + u))) Q
    exact K
theorem gX5_tablet_114 {w : Wd} {S : Sh} {J : Jm} {Q : Out → Sh → Jm → Prop} (hL : Lay S) (t : Nat) (u : Nat) (i : Nat)
    (K : Br (6 ≤ ((i : Nat) : Int)) ((-2147483648 ≤ ((u : Nat) : Int) + 1 ∧ ((u : Nat) : Int) + 1 ≤ 2147483647) ∧ V w 4 mX5_tablet 84 [some (vR 313), none, some (vI ((t : Nat) : Int)), some (vI ((u + 1 : Nat) : Int)), none] [] S J Q) ((-2147483648 ≤ 8 * ((t : Nat) : Int) ∧ 8 * ((t : Nat) : Int) ≤ 2147483647) ∧ (-2147483648 ≤ ((8 * t : Nat) : Int) + ((u : Nat) : Int) ∧ ((8 * t : Nat) : Int) + ((u : Nat) : Int) ≤ 2147483647) ∧ (-2147483648 ≤ 6 * (((8 * t) + u : Nat) : Int) ∧ 6 * (((8 * t) + u : Nat) : Int) ≤ 2147483647) ∧ (-2147483648 ≤ ((6 * ((8 * t) + u) : Nat) : Int) + ((i : Nat) : Int) ∧ ((6 * ((8 * t) + u) : Nat) : Int) + ((i : Nat) : Int) ≤ 2147483647) ∧ (-2147483648 ≤ 192 + ((u : Nat) : Int) ∧ 192 + ((u : Nat) : Int) ≤ 2147483647) ∧ (-2147483648 ≤ 6 * ((192 + u : Nat) : Int) ∧ 6 * ((192 + u : Nat) : Int) ≤ 2147483647) ∧ (-2147483648 ≤ ((6 * (192 + u) : Nat) : Int) + ((i : Nat) : Int) ∧ ((6 * (192 + u) : Nat) : Int) + ((i : Nat) : Int) ≤ 2147483647) ∧ ((((6 * (192 + u)) + i : Nat) : Int) < 1200) ∧ ((((6 * ((8 * t) + u)) + i : Nat) : Int) < 1200) ∧ (-2147483648 ≤ ((i : Nat) : Int) + 1 ∧ ((i : Nat) : Int) + 1 ≤ 2147483647) ∧ V w 4 mX5_tablet 114 [some (vR 313), none, some (vI ((t : Nat) : Int)), some (vI ((u : Nat) : Int)), some (vI ((i + 1 : Nat) : Int))] [] S (up J 318 ((6 * ((8 * t) + u)) + i) (J 318 ((6 * (192 + u)) + i))) Q)) :
    V w 4 mX5_tablet 114 [some (vR 313), none, some (vI ((t : Nat) : Int)), some (vI ((u : Nat) : Int)), some (vI ((i : Nat) : Int))] [] S J Q := by
  refine v_iload dX5_tablet_114 rfl ?_
  refine v_bipush dX5_tablet_116 (by decide) (in_lit (by decide)) ?_
  obtain ⟨K1, K2⟩ := K
  refine v_icmp_ge 160 dX5_tablet_118 (by decide) (fun c1 => ?_) (fun c1 => ?_)
  · have K := K1 c1
    obtain ⟨o1, K⟩ := K
    refine v_iinc dX5_tablet_160 rfl o1 ?_
    show V w 4 mX5_tablet 163 [some (vR 313), none, some (vI ((t : Nat) : Int)), some (vI ((u + 1 : Nat) : Int)), some (vI ((i : Nat) : Int))] [] S J Q
    refine v_goto 84 dX5_tablet_163 (by decide) ?_
    exact v_forget (fg_some (fg_none (fg_some (fg_some (fg_none fg_nil))))) K
  · have K := K2 c1
    refine v_aload_n dX5_tablet_121 rfl ?_
    refine v_getR dX5_tablet_122 frX5_26_5 rfl (L_313 hL).1 (LR_313_7 hL) (Or.inl rfl) ?_
    refine v_bipush dX5_tablet_125 (by decide) (in_lit (by decide)) ?_
    refine v_bipush dX5_tablet_127 (by decide) (in_lit (by decide)) ?_
    refine v_iload_n dX5_tablet_129 rfl ?_
    obtain ⟨o2, K⟩ := K
    refine v_imul dX5_tablet_130 o2 ?_
    show V w 4 mX5_tablet 131 [some (vR 313), none, some (vI ((t : Nat) : Int)), some (vI ((u : Nat) : Int)), some (vI ((i : Nat) : Int))] [vI ((8 * t : Nat) : Int), vI 6, vR 318] S J Q
    refine v_iload_n dX5_tablet_131 rfl ?_
    obtain ⟨o3, K⟩ := K
    refine v_iadd dX5_tablet_132 o3 ?_
    show V w 4 mX5_tablet 133 [some (vR 313), none, some (vI ((t : Nat) : Int)), some (vI ((u : Nat) : Int)), some (vI ((i : Nat) : Int))] [vI (((8 * t) + u : Nat) : Int), vI 6, vR 318] S J Q
    obtain ⟨o4, K⟩ := K
    refine v_imul dX5_tablet_133 o4 ?_
    show V w 4 mX5_tablet 134 [some (vR 313), none, some (vI ((t : Nat) : Int)), some (vI ((u : Nat) : Int)), some (vI ((i : Nat) : Int))] [vI ((6 * ((8 * t) + u) : Nat) : Int), vR 318] S J Q
    refine v_iload dX5_tablet_134 rfl ?_
    obtain ⟨o5, K⟩ := K
    refine v_iadd dX5_tablet_136 o5 ?_
    show V w 4 mX5_tablet 137 [some (vR 313), none, some (vI ((t : Nat) : Int)), some (vI ((u : Nat) : Int)), some (vI ((i : Nat) : Int))] [vI (((6 * ((8 * t) + u)) + i : Nat) : Int), vR 318] S J Q
    refine v_aload_n dX5_tablet_137 rfl ?_
    refine v_getR dX5_tablet_138 frX5_26_5 rfl (L_313 hL).1 (LR_313_7 hL) (Or.inl rfl) ?_
    refine v_bipush dX5_tablet_141 (by decide) (in_lit (by decide)) ?_
    refine v_sipush dX5_tablet_143 (by decide) (in_lit (by decide)) ?_
    refine v_iload_n dX5_tablet_146 rfl ?_
    obtain ⟨o6, K⟩ := K
    refine v_iadd dX5_tablet_147 o6 ?_
    show V w 4 mX5_tablet 148 [some (vR 313), none, some (vI ((t : Nat) : Int)), some (vI ((u : Nat) : Int)), some (vI ((i : Nat) : Int))] [vI ((192 + u : Nat) : Int), vI 6, vR 318, vI (((6 * ((8 * t) + u)) + i : Nat) : Int), vR 318] S J Q
    obtain ⟨o7, K⟩ := K
    refine v_imul dX5_tablet_148 o7 ?_
    show V w 4 mX5_tablet 149 [some (vR 313), none, some (vI ((t : Nat) : Int)), some (vI ((u : Nat) : Int)), some (vI ((i : Nat) : Int))] [vI ((6 * (192 + u) : Nat) : Int), vR 318, vI (((6 * ((8 * t) + u)) + i : Nat) : Int), vR 318] S J Q
    refine v_iload dX5_tablet_149 rfl ?_
    obtain ⟨o8, K⟩ := K
    refine v_iadd dX5_tablet_151 o8 ?_
    show V w 4 mX5_tablet 152 [some (vR 313), none, some (vI ((t : Nat) : Int)), some (vI ((u : Nat) : Int)), some (vI ((i : Nat) : Int))] [vI (((6 * (192 + u)) + i : Nat) : Int), vR 318, vI (((6 * ((8 * t) + u)) + i : Nat) : Int), vR 318] S J Q
    obtain ⟨o9, K⟩ := K
    refine ld_318 dX5_tablet_152 hL (by omega) o9 ?_
    show V w 4 mX5_tablet 153 [some (vR 313), none, some (vI ((t : Nat) : Int)), some (vI ((u : Nat) : Int)), some (vI ((i : Nat) : Int))] [vI (J 318 ((6 * (192 + u)) + i)), vI (((6 * ((8 * t) + u)) + i : Nat) : Int), vR 318] S J Q
    obtain ⟨o10, K⟩ := K
    refine st_318 dX5_tablet_153 hL (by omega) o10 ?_
    show V w 4 mX5_tablet 154 [some (vR 313), none, some (vI ((t : Nat) : Int)), some (vI ((u : Nat) : Int)), some (vI ((i : Nat) : Int))] [] S (up J 318 ((6 * ((8 * t) + u)) + i) (J 318 ((6 * (192 + u)) + i))) Q
    obtain ⟨o11, K⟩ := K
    refine v_iinc dX5_tablet_154 rfl o11 ?_
    show V w 4 mX5_tablet 157 [some (vR 313), none, some (vI ((t : Nat) : Int)), some (vI ((u : Nat) : Int)), some (vI ((i + 1 : Nat) : Int))] [] S (up J 318 ((6 * ((8 * t) + u)) + i) (J 318 ((6 * (192 + u)) + i))) Q
    refine v_goto 114 dX5_tablet_157 (by decide) ?_
    exact K
theorem gX5_tablet_50 {w : Wd} {S : Sh} {J : Jm} {Q : Out → Sh → Jm → Prop} (hL : Lay S) 
    (K : V w 4 mX5_tablet 32 [some (vR 313), none, none, none, none] [] S J Q) :
    V w 4 mX5_tablet 50 [some (vR 313), none, none, none, none] [] S J Q := by
  refine v_goto 32 dX5_tablet_50 (by decide) ?_
  exact K

/-- a tablet from the token at a on, behind the rows rs -/
def pTab (J : Jm) : Nat → Nat → List (List Int) → (Int × Nat) ⊕ List (List Int)
  | 0, a, _ => .inl (1, a)
  | f + 1, a, rs => match rowStep J a rs.length with
    | .inl e => .inl e
    | .inr (r, b) => if tK J b = 0 then .inr (rs ++ [r]) else pTab J f b (rs ++ [r])
def cpF (J J' : Jm) (t : Nat) : Prop := ∀ b k, ¬ (b = 317 ∧ 8 * t ≤ k ∧ k < 8 * t + 8) → ¬ (b = 318 ∧ 48 * t ≤ k ∧ k < 48 * t + 48) → J' b k = J b k
def cpD (J J' : Jm) (t u : Nat) : Prop := ∀ v, v < u → J' 317 (8 * t + v) = J 317 (192 + v) ∧ ∀ i, i < 6 → J' 318 (6 * (8 * t + v) + i) = J 318 (6 * (192 + v) + i)
/-- rows of one tablet that lies there -/
def TabAt (J : Jm) (t : Nat) (rs : List (List Int)) : Prop := J 316 t = (rs.length : Nat) ∧ ∀ k, k < rs.length → RowAt J (8 * t + k) (rs.getD k [])
/-- what a text leaves that was a tablet's -/
def tbF (J J' : Jm) (t : Nat) : Prop := ∀ b k, scr b k = false → ¬ (b = 313 ∧ (k = 2 ∨ k = 16 ∨ k = 23)) → ¬ (b = 316 ∧ k = t) → ¬ (b = 317 ∧ 8 * t ≤ k ∧ k < 8 * t + 8) → ¬ (b = 318 ∧ 48 * t ≤ k ∧ k < 48 * t + 48) → ¬ ((b = 314 ∨ b = 315) ∧ k = t) → J' b k = J b k
/-- the tape is empty, a place is noted -/
def txF (J J' : Jm) (p : Int) : Prop := J' 313 16 = 0 ∧ J' 313 23 = p ∧ ∀ b k, scr b k = false → ¬ (b = 313 ∧ (k = 16 ∨ k = 23)) → J' b k = J b k
def TabNew (J J' : Jm) (rs : List (List Int)) : Prop := J' 313 16 = 0 ∧ J' 313 23 = -1 ∧ J' 313 2 = J 313 2 + 1 ∧ tbF J J' (J 313 2).toNat ∧ TabAt J' (J 313 2).toNat rs ∧ J' 314 (J 313 2).toNat = J 313 1 ∧ J' 315 (J 313 2).toNat = 1000000
/-- rows as they may be read -/
def rowsOk (rs : List (List Int)) : Prop := 1 ≤ rs.length ∧ rs.length ≤ 8 ∧ ∀ k, k < rs.length → 1 ≤ (rs.getD k []).length ∧ (rs.getD k []).length ≤ 6
theorem m_tablet {w : Wd} {S : Sh} {J : Jm} {Q : Out → Sh → Jm → Prop} (hL : Lay S) (hT : MTape J) (ht : 0 ≤ J 313 2 ∧ J 313 2 ≤ 24)
    (K0 : J 313 2 = 24 → ∀ J', Kp J J' → Q (.inl (some (vI (-1)))) S J')
    (K1 : J 313 2 ≠ 24 → ∀ k p J', pTab J 301 0 [] = .inl (k, p) → txF J J' (p : Nat) → Q (.inl (some (vI (-1 - k)))) S J')
    (K2 : J 313 2 ≠ 24 → ∀ rs J', pTab J 301 0 [] = .inr rs → rowsOk rs → TabNew J J' rs → Q (.inl (some (vI (J 313 2)))) S J') : V w 4 mX5_tablet 0 (ent mX5_tablet [vR 313]) [] S J Q := by
  obtain ⟨t, et⟩ : ∃ t : Nat, J 313 2 = t := ⟨(J 313 2).toNat, by omega⟩
  rw [et] at ht K0 K1 K2
  unfold TabNew at K2
  rw [et, Int.toNat_natCast] at K2
  generalize hres : pTab J 301 0 [] = res at K1 K2
  have ne24 : ∀ J1, Kp J J1 → J1 313 2 = (t : Int) := fun J1 h => by rw [h _ _ rfl]; exact et
  -- a fault
  have bad : t ≠ 24 → ∀ (k : Int) (p : Nat) (J1 : Jm), Kp J J1 → J1 313 21 = k → J1 313 22 = (p : Int) → (k = 1 ∨ k = 2 ∨ k = 3) → res = .inl (k, p) → V w 4 mX5_tablet 32 [some (vR 313), none, none, none, none] [] S J1 Q := by
    intro h24 k p J1 kp e1 e2 hk hr
    refine gX5_tablet_32 (J := J1) hL (br_n (by omega) ⟨by omega, fun r J2 hp => ?_⟩)
    rcases hp with ⟨q, -⟩ | ⟨-, q1, q2⟩
    · omega
    · refine br_n (by omega) ?_
      rw [q1, e1, q2]
      refine K1 (by omega) k p _ hr ⟨by simp [up], by rw [up_self]; exact e2, fun b j h1 h2 => ?_⟩
      rw [up_ne (fun e => h2 ⟨e.1, Or.inr e.2⟩), up_ne (fun e => h2 ⟨e.1, Or.inl e.2⟩)]
      exact kp b j h1
  -- all rows are read
  have good : t < 24 → ∀ (rs : List (List Int)) (J1 : Jm), Kp J J1 → J1 313 21 = 0 → J1 313 19 = 0 → RdR J1 rs → rowsOk rs → res = .inr rs → V w 4 mX5_tablet 32 [some (vR 313), none, none, none, none] [] S J1 Q := by
    intro h24 rs J1 kp e1 e2 hR hok hr
    refine gX5_tablet_32 (J := J1) hL (br_y e1 (br_y e2 ⟨by omega, fun r J2 hp => ?_⟩))
    obtain ⟨q1, q2⟩ : r = 0 ∧ J2 = up (up J1 313 16 0) 313 23 (-1) := by
      rcases hp with ⟨-, q1, q2⟩ | ⟨q, -⟩
      · exact ⟨q1, q2⟩
      · exact absurd e1 q
    refine br_y (by omega) ?_
    have t2 : J2 313 2 = (t : Int) := by rw [q2]; simp [up]; exact ne24 J1 kp
    have r2 : J2 316 24 = ((rs.length : Nat) : Int) := by rw [q2]; simp [up]; exact hR.1
    rw [t2, r2, Int.toNat_natCast]
    (repeat' (first | (refine And.intro ?_ ?_; omega)))
    generalize hJ3 : up J2 316 t ((rs.length : Nat) : Int) = J3
    have f3 : ∀ b k, ¬ (b = 313 ∧ (k = 16 ∨ k = 23)) → ¬ (b = 316 ∧ k = t) → J3 b k = J1 b k := by
      intro b k h1 h2
      rw [← hJ3, up_ne h2, q2, up_ne (fun e => h1 ⟨e.1, Or.inr e.2⟩), up_ne (fun e => h1 ⟨e.1, Or.inl e.2⟩)]
    have t3 : J3 313 2 = (t : Int) := by rw [← hJ3, up_na (by decide)]; exact t2
    have td3 : J3 313 1 = J 313 1 := by rw [f3 _ _ (by omega) (by omega)]; exact kp _ _ rfl
    have a3 : J3 313 16 = 0 := by rw [← hJ3, q2]; simp [up]
    have b3 : J3 313 23 = -1 := by rw [← hJ3, q2]; simp [up]
    have c3 : J3 316 t = ((rs.length : Nat) : Int) := by rw [← hJ3, up_self]
    show V w 4 mX5_tablet 84 [some (vR 313), none, some (vI (t : Int)), some (vI ((0 : Nat) : Int)), none] [] S J3 Q
    refine up_loop (P := fun u J4 => cpF J3 J4 t ∧ cpD J3 J4 t u) 8 (fun u J4 => V w 4 mX5_tablet 84 [some (vR 313), none, some (vI (t : Int)), some (vI (u : Int)), none] [] S J4 Q) ?_ ?_ 0 J3 (by omega) ⟨fun _ _ _ _ => rfl, fun v hv => absurd hv (by omega)⟩
    · intro u J4 hu ⟨f4, d4⟩ ih
      refine gX5_tablet_84 (J := J4) hL t u (br_n (by omega) ?_)
      (repeat' (first | (refine And.intro ?_ ?_; omega)))
      have es : J4 317 (192 + u) = J3 317 (192 + u) := f4 _ _ (by omega) (by omega)
      rw [es]
      show V w 4 mX5_tablet 114 [some (vR 313), none, some (vI (t : Int)), some (vI (u : Int)), some (vI ((0 : Nat) : Int))] [] S _ Q
      refine up_loop (P := fun i J5 => cpF J3 J5 t ∧ cpD J3 J5 t u ∧ J5 317 (8 * t + u) = J3 317 (192 + u) ∧ ∀ j, j < i → J5 318 (6 * (8 * t + u) + j) = J3 318 (6 * (192 + u) + j)) 6 (fun i J5 => V w 4 mX5_tablet 114 [some (vR 313), none, some (vI (t : Int)), some (vI (u : Int)), some (vI (i : Int))] [] S J5 Q) ?_ ?_ 0 _ (by omega) ⟨fun b k h1 h2 => ?_, fun v hv => ⟨?_, fun i hi => ?_⟩, up_self, fun j hj => absurd hj (by omega)⟩
      · intro i J5 hi ⟨f5, d5, s5, p5⟩ ih5
        refine gX5_tablet_114 (J := J5) hL t u i (br_n (by omega) ?_)
        (repeat' (first | (refine And.intro ?_ ?_; omega)))
        have ep : J5 318 (6 * (192 + u) + i) = J3 318 (6 * (192 + u) + i) := f5 _ _ (by omega) (by omega)
        rw [ep]
        refine ih5 _ ⟨fun b k h1 h2 => ?_, fun v hv => ⟨?_, fun j hj => ?_⟩, ?_, fun j hj => ?_⟩
        · rw [up_ne (fun e => h2 ⟨e.1, by omega, by omega⟩)]; exact f5 b k h1 h2
        · rw [up_na (by decide)]; exact (d5 v hv).1
        · rw [up_nk (by omega)]; exact (d5 v hv).2 j hj
        · rw [up_na (by decide)]; exact s5
        · by_cases hji : j = i
          · rw [hji, up_self]
          · rw [up_nk (by omega)]; exact p5 j (by omega)
      · intro J5 ⟨f5, d5, s5, p5⟩
        refine gX5_tablet_114 (J := J5) hL t u 6 (br_y (by omega) ?_)
        (repeat' (first | (refine And.intro ?_ ?_; omega)))
        refine ih J5 ⟨f5, fun v hv => ?_⟩
        by_cases hvu : v = u
        · rw [hvu]; exact ⟨s5, p5⟩
        · exact d5 v (by omega)
      · rw [up_ne (fun e => h1 ⟨e.1, by omega, by omega⟩)]; exact f4 b k h1 h2
      · rw [up_nk (by omega)]; exact (d4 v hv).1
      · rw [up_na (by decide)]; exact (d4 v hv).2 i hi
    · intro J4 ⟨f4, d4⟩
      refine gX5_tablet_84 (J := J4) hL t 8 (br_y (by omega) ?_)
      have t4 : J4 313 2 = (t : Int) := by rw [f4 _ _ (by omega) (by omega)]; exact t3
      have td4 : J4 313 1 = J 313 1 := by rw [f4 _ _ (by omega) (by omega)]; exact td3
      rw [t4, td4]
      (repeat' (first | (refine And.intro ?_ ?_; omega)))
      refine K2 (by omega) rs _ hr hok ⟨?_, ?_, ?_, fun b k h1 h2 h3 h4 h5 h6 => ?_, ⟨?_, fun k hk => ⟨?_, fun i hi => ?_⟩⟩, ?_, ?_⟩
      · simp [up]; rw [f4 _ _ (by omega) (by omega)]; exact a3
      · simp [up]; rw [f4 _ _ (by omega) (by omega)]; exact b3
      · rw [up_self]
      · rw [up_ne (fun e => h2 ⟨e.1, by omega⟩), up_ne (fun e => h6 ⟨Or.inr e.1, e.2⟩), up_ne (fun e => h6 ⟨Or.inl e.1, e.2⟩), f4 b k h4 h5, f3 b k (fun e => h2 ⟨e.1, by omega⟩) h3]
        exact kp b k h1
      · simp [up]; rw [f4 _ _ (by omega) (by omega)]; exact c3
      · have := hok.2.1
        have h9 := ((d4 k (by omega)).1.trans (f3 _ _ (by omega) (by omega))).trans (hR.2 k hk).1.1
        simp [up]; exact h9
      · have := hok.2.1
        have hl := (hok.2.2 k hk).2
        have h9 := ((d4 k (by omega)).2 i (by omega)).trans ((f3 _ _ (by omega) (by omega)).trans ((hR.2 k hk).1.2 i hi))
        simp [up]; exact h9
      · simp [up]
      · simp [up]
  -- behind a row
  have loop : t < 24 → ∀ (f a : Nat) (rs : List (List Int)) (J1 : Jm) (rest : V w 4 mX5_tablet 32 [some (vR 313), none, none, none, none] [] S J1 Q ∨ True), 300 < f + a → a ≤ 300 → rs.length ≤ 8 → Kp J J1 → J1 313 21 = 0 → RdR J1 rs → (∀ k, k < rs.length → 1 ≤ (rs.getD k []).length) → Tk J J1 a → pTab J f a rs = res → V w 3 mX5_readRow 0 (ent mX5_readRow [vR 313]) [] S J1 (fun o S' J' => o = .inl none ∧ S' = S ∧ V w 4 mX5_tablet 32 [some (vR 313), none, none, none, none] [] S J' Q) := by
    intro h24 f
    induction f with
    | zero => intro a rs J1 _ h1 h2; omega
    | succ f ih =>
      intro a rs J1 _ hf ha hrs kp e0 hR hge hk hp
      rw [pTab] at hp
      have hm := kp.mp
      have es : ∀ n, rowStep J1 a n = rowStep J a n := by
        intro n
        have hrow : ∀ (f a : Nat) (acc : List Int), pRow J1 f a acc = pRow J f a acc := by
          intro f
          induction f with
          | zero => intro a acc; rfl
          | succ f ih => intro a acc; rw [pRow, pRow, tK_mp hm, tV_mp hm, tP_mp hm, tE_mp hm, ih, ih]
        unfold rowStep
        rw [tK_mp hm, tV_mp hm, tP_mp hm, hrow]
      have hk1 : Tk J1 J1 a := by
        unfold Tk at hk ⊢
        rw [tK_mp hm, tV_mp hm, tP_mp hm, tE_mp hm]
        exact hk
      refine s_readRow (J := J1) hL a rs (hT.mp hm) ha hk1 e0 hR.1 hrs (fun J2 f2 z1 z2 => ⟨rfl, rfl, ?_⟩)
      rw [es] at z1 z2
      have kp2 : Kp J J2 := kp.trans f2.kp
      cases hrs2 : rowStep J a rs.length with
      | inl e =>
        obtain ⟨k, p⟩ := e
        rw [hrs2] at hp
        obtain ⟨y1, y2, y3⟩ := z1 k p hrs2
        exact bad (by omega) k p J2 kp2 y1 y2 y3 hp.symm
      | inr e =>
        obtain ⟨r, b⟩ := e
        rw [hrs2] at hp
        obtain ⟨y1, y2, y3, y4, y5, y6, y7, y8⟩ := z2 r b hrs2
        have hlt : rs.length < 8 := by
          apply Classical.byContradiction
          intro q
          unfold rowStep at hrs2
          split at hrs2
          · rw [if_pos (by omega)] at hrs2
            cases hrs2
          · cases hrs2
        have hk2 : Tk J J2 b := by
          unfold Tk at y6 ⊢
          rw [tK_mp hm, tV_mp hm, tP_mp hm, tE_mp hm] at y6
          exact y6
        have hR2 : RdR J2 (rs ++ [r]) := by
          refine ⟨by rw [len_app]; exact y2, fun k hkk => ?_⟩
          rw [len_app] at hkk
          by_cases hkr : k = rs.length
          · subst hkr
            rw [getD_app_r]
            exact ⟨y3, y4⟩
          · rw [getD_app_l (by omega)]
            have h9 := hR.2 k (by omega)
            refine ⟨⟨?_, fun i hi => ?_⟩, h9.2⟩
            · rw [f2 _ _ (by omega) (by omega) (by omega) (by omega)]; exact h9.1.1
            · rw [f2 _ _ (by omega) (by omega) (by omega) (by have := h9.2; omega)]; exact h9.1.2 i hi
        have hge2 : ∀ k, k < (rs ++ [r]).length → 1 ≤ ((rs ++ [r]).getD k []).length := by
          intro k hkk
          rw [len_app] at hkk
          by_cases hkr : k = rs.length
          · subst hkr
            rw [getD_app_r]
            exact y5
          · rw [getD_app_l (by omega)]
            exact hge k (by omega)
        have hp2 : (if tK J b = 0 then Sum.inr (rs ++ [r]) else pTab J f b (rs ++ [r])) = res := hp
        by_cases hk0 : tK J b = 0
        · rw [if_pos hk0] at hp2
          refine good h24 (rs ++ [r]) J2 kp2 y1 (by rw [hk2.2.2.1]; exact hk0) hR2 ⟨by rw [len_app]; omega, by rw [len_app]; omega, fun k hkk => ⟨hge2 k hkk, (hR2.2 k hkk).2⟩⟩ hp2.symm
        · rw [if_neg hk0] at hp2
          refine gX5_tablet_32 (J := J2) hL (br_y y1 (br_n (by rw [hk2.2.2.1]; exact hk0) ?_))
          refine (ih b (rs ++ [r]) J2 (Or.inr trivial) (by omega) y8 (by rw [len_app]; omega) kp2 y1 hR2 hge2 hk2 hp2).mono (Nat.le_refl _) (fun o S' J' h => ?_)
          obtain ⟨rfl, rfl, h⟩ := h
          exact gX5_tablet_50 hL h
  refine gX5_tablet_0 (J := J) hL ?_
  rw [et]
  refine br_i (fun h => K0 h _ (k0 J)) (fun h => ?_)
  refine ⟨hT.mp (k0 J).mp, fun J1 hp => ?_⟩
  have kp1 : Kp J (up (up (up J 313 0 0) 313 21 0) 313 17 0) := ((k0 J).up rfl).up rfl
  have kp2 : Kp J (up J1 316 24 0) := (kp1.trans hp.1.kp).up rfl
  have hk1 : Tk J J1 0 := PNx.tk kp1.mp hp
  obtain ⟨z1, z2, z3, z4⟩ := hk1
  have ef : J1 313 21 = 0 := by rw [hp.1 _ _ (by omega)]; simp [up]
  refine (loop (by omega) 301 0 [] (up J1 316 24 0) (Or.inr trivial) (by omega) (by omega) (Nat.zero_le _) kp2 (by rw [up_na (by decide)]; exact ef) ⟨up_self, fun k hk => absurd hk (Nat.not_lt_zero _)⟩ (fun k hk => absurd hk (Nat.not_lt_zero _)) ⟨by rw [up_na (by decide)]; exact z1, by rw [up_na (by decide)]; exact z2, by rw [up_na (by decide)]; exact z3, fun q => by rw [up_na (by decide)]; exact z4 q⟩ hres).mono (Nat.le_refl _) (fun o S' J' h => ?_)
  obtain ⟨rfl, rfl, h⟩ := h
  exact h
