/-! the model: how far -/
set_option maxRecDepth 100000
theorem gX5_findFar_0 {w : Wd} {S : Sh} {J : Jm} {Q : Out → Sh → Jm → Prop} (hL : Lay S) (o : Nat) (a : Nat)
    (K : V w 0 mX5_findFar 2 [some (vR 313), some (vI ((o : Nat) : Int)), some (vI ((a : Nat) : Int)), some (vI 0), none] [] S J Q) :
    V w 0 mX5_findFar 0 (ent mX5_findFar [vR 313, vI ((o : Nat) : Int), vI ((a : Nat) : Int)]) [] S J Q := by
  show V w 0 mX5_findFar 0 [some (vR 313), some (vI ((o : Nat) : Int)), some (vI ((a : Nat) : Int)), none, none] [] S J Q
  refine v_iconst dX5_findFar_0 (in_lit (by decide)) ?_
  refine v_istore_n dX5_findFar_1 (Nat.le_of_ble_eq_true rfl) ?_
  show V w 0 mX5_findFar 2 [some (vR 313), some (vI ((o : Nat) : Int)), some (vI ((a : Nat) : Int)), some (vI 0), none] [] S J Q
  exact K
theorem gX5_findFar_2 {w : Wd} {S : Sh} {J : Jm} {Q : Out → Sh → Jm → Prop} (hL : Lay S) (o : Nat) (a : Nat) (s : Nat)
    (K : Br (40 ≤ ((s : Nat) : Int)) (V w 0 mX5_findFar 33 [some (vR 313), some (vI ((o : Nat) : Int)), none, some (vI 1), none] [] S J Q) (Br (((s : Nat) : Int) = ((a : Nat) : Int)) ((((s : Nat) : Int) < 40) ∧ (-2147483648 ≤ ((s : Nat) : Int) + 1 ∧ ((s : Nat) : Int) + 1 ≤ 2147483647) ∧ V w 0 mX5_findFar 2 [some (vR 313), some (vI ((o : Nat) : Int)), some (vI ((a : Nat) : Int)), some (vI ((s + 1 : Nat) : Int)), none] [] S (up J 345 s 0) Q) ((((s : Nat) : Int) < 40) ∧ (-2147483648 ≤ ((s : Nat) : Int) + 1 ∧ ((s : Nat) : Int) + 1 ≤ 2147483647) ∧ V w 0 mX5_findFar 2 [some (vR 313), some (vI ((o : Nat) : Int)), some (vI ((a : Nat) : Int)), some (vI ((s + 1 : Nat) : Int)), none] [] S (up J 345 s 1000000) Q))) :
    V w 0 mX5_findFar 2 [some (vR 313), some (vI ((o : Nat) : Int)), some (vI ((a : Nat) : Int)), some (vI ((s : Nat) : Int)), none] [] S J Q := by
  refine v_iload_n dX5_findFar_2 rfl ?_
  refine v_bipush dX5_findFar_3 (by decide) (in_lit (by decide)) ?_
  obtain ⟨K1, K2⟩ := K
  refine v_icmp_ge 31 dX5_findFar_5 (by decide) (fun cQ => ?_) (fun cQ => ?_)
  · have K := K1 cQ
    refine v_iconst dX5_findFar_31 (in_lit (by decide)) ?_
    refine v_istore_n dX5_findFar_32 (Nat.le_of_ble_eq_true rfl) ?_
    show V w 0 mX5_findFar 33 [some (vR 313), some (vI ((o : Nat) : Int)), some (vI ((a : Nat) : Int)), some (vI 1), none] [] S J Q
    exact v_forget (fg_some (fg_some (fg_none (fg_some (fg_none fg_nil))))) K
  · have K := K2 cQ
    refine v_aload_n dX5_findFar_8 rfl ?_
    refine v_getR dX5_findFar_9 frX5_112_5 rfl (L_313 hL).1 (LR_313_46 hL) (Or.inl rfl) ?_
    refine v_iload_n dX5_findFar_12 rfl ?_
    refine v_iload_n dX5_findFar_13 rfl ?_
    refine v_iload_n dX5_findFar_14 rfl ?_
    obtain ⟨K1, K2⟩ := K
    refine v_icmp_ne 22 dX5_findFar_15 (by decide) (fun cQ => ?_) (fun cQ => ?_)
    · have K := K2 cQ
      refine v_ldc dX5_findFar_22 q1896 (z := 1000000) (by decide) ?_
      obtain ⟨o1, K⟩ := K
      refine st_345 dX5_findFar_24 hL (by omega) o1 ?_
      show V w 0 mX5_findFar 25 [some (vR 313), some (vI ((o : Nat) : Int)), some (vI ((a : Nat) : Int)), some (vI ((s : Nat) : Int)), none] [] S (up J 345 s 1000000) Q
      obtain ⟨o2, K⟩ := K
      refine v_iinc dX5_findFar_25 rfl o2 ?_
      show V w 0 mX5_findFar 28 [some (vR 313), some (vI ((o : Nat) : Int)), some (vI ((a : Nat) : Int)), some (vI ((s + 1 : Nat) : Int)), none] [] S (up J 345 s 1000000) Q
      refine v_goto 2 dX5_findFar_28 (by decide) ?_
      exact K
    · have K := K1 cQ
      refine v_iconst dX5_findFar_18 (in_lit (by decide)) ?_
      refine v_goto 24 dX5_findFar_19 (by decide) ?_
      obtain ⟨o3, K⟩ := K
      refine st_345 dX5_findFar_24 hL (by omega) o3 ?_
      show V w 0 mX5_findFar 25 [some (vR 313), some (vI ((o : Nat) : Int)), some (vI ((a : Nat) : Int)), some (vI ((s : Nat) : Int)), none] [] S (up J 345 s 0) Q
      obtain ⟨o4, K⟩ := K
      refine v_iinc dX5_findFar_25 rfl o4 ?_
      show V w 0 mX5_findFar 28 [some (vR 313), some (vI ((o : Nat) : Int)), some (vI ((a : Nat) : Int)), some (vI ((s + 1 : Nat) : Int)), none] [] S (up J 345 s 0) Q
      refine v_goto 2 dX5_findFar_28 (by decide) ?_
      exact K
theorem gX5_findFar_33 {w : Wd} {S : Sh} {J : Jm} {Q : Out → Sh → Jm → Prop} (hL : Lay S) (o : Nat) (more : Int)
    (K : Br (more = 0) (Q (.inl none) S J) (V w 0 mX5_findFar 42 [some (vR 313), some (vI ((o : Nat) : Int)), none, some (vI 0), some (vI 0)] [] S J Q)) :
    V w 0 mX5_findFar 33 [some (vR 313), some (vI ((o : Nat) : Int)), none, some (vI more), none] [] S J Q := by
  refine v_iload_n dX5_findFar_33 rfl ?_
  obtain ⟨K1, K2⟩ := K
  refine v_if_eq 127 dX5_findFar_34 (by decide) (fun cQ => ?_) (fun cQ => ?_)
  · have K := K1 cQ
    exact v_vret dX5_findFar_127 rfl K
  · have K := K2 cQ
    refine v_iconst dX5_findFar_37 (in_lit (by decide)) ?_
    refine v_istore_n dX5_findFar_38 (Nat.le_of_ble_eq_true rfl) ?_
    show V w 0 mX5_findFar 39 [some (vR 313), some (vI ((o : Nat) : Int)), none, some (vI 0), none] [] S J Q
    refine v_iconst dX5_findFar_39 (in_lit (by decide)) ?_
    refine v_istore dX5_findFar_40 (Nat.le_of_ble_eq_true rfl) ?_
    show V w 0 mX5_findFar 42 [some (vR 313), some (vI ((o : Nat) : Int)), none, some (vI 0), some (vI 0)] [] S J Q
    exact K
theorem gX5_findFar_42 {w : Wd} {S : Sh} {J : Jm} {Q : Out → Sh → Jm → Prop} (hL : Lay S) (o : Nat) (more : Int) (k : Nat)
    (K : Br (1600 ≤ ((k : Nat) : Int)) (V w 0 mX5_findFar 33 [some (vR 313), some (vI ((o : Nat) : Int)), none, some (vI more), none] [] S J Q) ((-2147483648 ≤ 1600 * ((o : Nat) : Int) ∧ 1600 * ((o : Nat) : Int) ≤ 2147483647) ∧ (-2147483648 ≤ ((1600 * o : Nat) : Int) + ((k : Nat) : Int) ∧ ((1600 * o : Nat) : Int) + ((k : Nat) : Int) ≤ 2147483647) ∧ ((((1600 * o) + k : Nat) : Int) < 3200) ∧ Br (J 341 ((1600 * o) + k) = 0) ((-2147483648 ≤ ((k : Nat) : Int) + 1 ∧ ((k : Nat) : Int) + 1 ≤ 2147483647) ∧ V w 0 mX5_findFar 42 [some (vR 313), some (vI ((o : Nat) : Int)), none, some (vI more), some (vI ((k + 1 : Nat) : Int))] [] S J Q) ((((k % 40 : Nat) : Int) < 40) ∧ (((k / 40 : Nat) : Int) < 40) ∧ (-2147483648 ≤ (J 345 (k / 40)) + 1 ∧ (J 345 (k / 40)) + 1 ≤ 2147483647) ∧ Br ((J 345 (k / 40)) + 1 < J 345 (k % 40)) ((((k / 40 : Nat) : Int) < 40) ∧ (-2147483648 ≤ (J 345 (k / 40)) + 1 ∧ (J 345 (k / 40)) + 1 ≤ 2147483647) ∧ (((k % 40 : Nat) : Int) < 40) ∧ (-2147483648 ≤ ((k : Nat) : Int) + 1 ∧ ((k : Nat) : Int) + 1 ≤ 2147483647) ∧ V w 0 mX5_findFar 42 [some (vR 313), some (vI ((o : Nat) : Int)), none, some (vI 1), some (vI ((k + 1 : Nat) : Int))] [] S (up J 345 (k % 40) ((J 345 (k / 40)) + 1)) Q) ((-2147483648 ≤ ((k : Nat) : Int) + 1 ∧ ((k : Nat) : Int) + 1 ≤ 2147483647) ∧ V w 0 mX5_findFar 42 [some (vR 313), some (vI ((o : Nat) : Int)), none, some (vI more), some (vI ((k + 1 : Nat) : Int))] [] S J Q)))) :
    V w 0 mX5_findFar 42 [some (vR 313), some (vI ((o : Nat) : Int)), none, some (vI more), some (vI ((k : Nat) : Int))] [] S J Q := by
  refine v_iload dX5_findFar_42 rfl ?_
  refine v_sipush dX5_findFar_44 (by decide) (in_lit (by decide)) ?_
  obtain ⟨K1, K2⟩ := K
  refine v_icmp_ge 124 dX5_findFar_47 (by decide) (fun cQ => ?_) (fun cQ => ?_)
  · have K := K1 cQ
    refine v_goto 33 dX5_findFar_124 (by decide) ?_
    exact v_forget (fg_some (fg_some (fg_none (fg_some (fg_none fg_nil))))) K
  · have K := K2 cQ
    refine v_aload_n dX5_findFar_50 rfl ?_
    refine v_getR dX5_findFar_51 frX5_100_5 rfl (L_313 hL).1 (LR_313_42 hL) (Or.inl rfl) ?_
    refine v_sipush dX5_findFar_54 (by decide) (in_lit (by decide)) ?_
    refine v_iload_n dX5_findFar_57 rfl ?_
    obtain ⟨o1, K⟩ := K
    refine v_imul dX5_findFar_58 o1 ?_
    show V w 0 mX5_findFar 59 [some (vR 313), some (vI ((o : Nat) : Int)), none, some (vI more), some (vI ((k : Nat) : Int))] [vI ((1600 * o : Nat) : Int), vR 341] S J Q
    refine v_iload dX5_findFar_59 rfl ?_
    obtain ⟨o2, K⟩ := K
    refine v_iadd dX5_findFar_61 o2 ?_
    show V w 0 mX5_findFar 62 [some (vR 313), some (vI ((o : Nat) : Int)), none, some (vI more), some (vI ((k : Nat) : Int))] [vI (((1600 * o) + k : Nat) : Int), vR 341] S J Q
    obtain ⟨o3, K⟩ := K
    refine ld_341 dX5_findFar_62 hL (by omega) o3 ?_
    show V w 0 mX5_findFar 63 [some (vR 313), some (vI ((o : Nat) : Int)), none, some (vI more), some (vI ((k : Nat) : Int))] [vI (J 341 ((1600 * o) + k))] S J Q
    obtain ⟨K1, K2⟩ := K
    refine v_if_eq 118 dX5_findFar_63 (by decide) (fun cQ => ?_) (fun cQ => ?_)
    · have K := K1 cQ
      obtain ⟨o4, K⟩ := K
      refine v_iinc dX5_findFar_118 rfl o4 ?_
      show V w 0 mX5_findFar 121 [some (vR 313), some (vI ((o : Nat) : Int)), none, some (vI more), some (vI ((k + 1 : Nat) : Int))] [] S J Q
      refine v_goto 42 dX5_findFar_121 (by decide) ?_
      exact K
    · have K := K2 cQ
      refine v_aload_n dX5_findFar_66 rfl ?_
      refine v_getR dX5_findFar_67 frX5_112_5 rfl (L_313 hL).1 (LR_313_46 hL) (Or.inl rfl) ?_
      refine v_iload dX5_findFar_70 rfl ?_
      refine v_bipush dX5_findFar_72 (by decide) (in_lit (by decide)) ?_
      refine v_irem dX5_findFar_74 (by omega) (by decide) ?_
      show V w 0 mX5_findFar 75 [some (vR 313), some (vI ((o : Nat) : Int)), none, some (vI more), some (vI ((k : Nat) : Int))] [vI ((k % 40 : Nat) : Int), vR 345] S J Q
      obtain ⟨o5, K⟩ := K
      refine ld_345 dX5_findFar_75 hL (by omega) o5 ?_
      show V w 0 mX5_findFar 76 [some (vR 313), some (vI ((o : Nat) : Int)), none, some (vI more), some (vI ((k : Nat) : Int))] [vI (J 345 (k % 40))] S J Q
      refine v_aload_n dX5_findFar_76 rfl ?_
      refine v_getR dX5_findFar_77 frX5_112_5 rfl (L_313 hL).1 (LR_313_46 hL) (Or.inl rfl) ?_
      refine v_iload dX5_findFar_80 rfl ?_
      refine v_bipush dX5_findFar_82 (by decide) (in_lit (by decide)) ?_
      refine v_idiv dX5_findFar_84 (by omega) (by decide) ?_
      show V w 0 mX5_findFar 85 [some (vR 313), some (vI ((o : Nat) : Int)), none, some (vI more), some (vI ((k : Nat) : Int))] [vI ((k / 40 : Nat) : Int), vR 345, vI (J 345 (k % 40))] S J Q
      obtain ⟨o6, K⟩ := K
      refine ld_345 dX5_findFar_85 hL (by omega) o6 ?_
      show V w 0 mX5_findFar 86 [some (vR 313), some (vI ((o : Nat) : Int)), none, some (vI more), some (vI ((k : Nat) : Int))] [vI (J 345 (k / 40)), vI (J 345 (k % 40))] S J Q
      refine v_iconst dX5_findFar_86 (in_lit (by decide)) ?_
      obtain ⟨o7, K⟩ := K
      refine v_iadd dX5_findFar_87 o7 ?_
      obtain ⟨K1, K2⟩ := K
      refine v_icmp_gt 94 dX5_findFar_88 (by decide) (fun cQ => ?_) (fun cQ => ?_)
      · have K := K1 cQ
        refine v_aload_n dX5_findFar_94 rfl ?_
        refine v_getR dX5_findFar_95 frX5_112_5 rfl (L_313 hL).1 (LR_313_46 hL) (Or.inl rfl) ?_
        refine v_iload dX5_findFar_98 rfl ?_
        refine v_bipush dX5_findFar_100 (by decide) (in_lit (by decide)) ?_
        refine v_irem dX5_findFar_102 (by omega) (by decide) ?_
        show V w 0 mX5_findFar 103 [some (vR 313), some (vI ((o : Nat) : Int)), none, some (vI more), some (vI ((k : Nat) : Int))] [vI ((k % 40 : Nat) : Int), vR 345] S J Q
        refine v_aload_n dX5_findFar_103 rfl ?_
        refine v_getR dX5_findFar_104 frX5_112_5 rfl (L_313 hL).1 (LR_313_46 hL) (Or.inl rfl) ?_
        refine v_iload dX5_findFar_107 rfl ?_
        refine v_bipush dX5_findFar_109 (by decide) (in_lit (by decide)) ?_
        refine v_idiv dX5_findFar_111 (by omega) (by decide) ?_
        show V w 0 mX5_findFar 112 [some (vR 313), some (vI ((o : Nat) : Int)), none, some (vI more), some (vI ((k : Nat) : Int))] [vI ((k / 40 : Nat) : Int), vR 345, vI ((k % 40 : Nat) : Int), vR 345] S J Q
        obtain ⟨o8, K⟩ := K
        refine ld_345 dX5_findFar_112 hL (by omega) o8 ?_
        show V w 0 mX5_findFar 113 [some (vR 313), some (vI ((o : Nat) : Int)), none, some (vI more), some (vI ((k : Nat) : Int))] [vI (J 345 (k / 40)), vI ((k % 40 : Nat) : Int), vR 345] S J Q
        refine v_iconst dX5_findFar_113 (in_lit (by decide)) ?_
        obtain ⟨o9, K⟩ := K
        refine v_iadd dX5_findFar_114 o9 ?_
        obtain ⟨o10, K⟩ := K
        refine st_345 dX5_findFar_115 hL (by omega) o10 ?_
        show V w 0 mX5_findFar 116 [some (vR 313), some (vI ((o : Nat) : Int)), none, some (vI more), some (vI ((k : Nat) : Int))] [] S (up J 345 (k % 40) ((J 345 (k / 40)) + 1)) Q
        refine v_iconst dX5_findFar_116 (in_lit (by decide)) ?_
        refine v_istore_n dX5_findFar_117 (Nat.le_of_ble_eq_true rfl) ?_
        show V w 0 mX5_findFar 118 [some (vR 313), some (vI ((o : Nat) : Int)), none, some (vI 1), some (vI ((k : Nat) : Int))] [] S (up J 345 (k % 40) ((J 345 (k / 40)) + 1)) Q
        obtain ⟨o11, K⟩ := K
        refine v_iinc dX5_findFar_118 rfl o11 ?_
        show V w 0 mX5_findFar 121 [some (vR 313), some (vI ((o : Nat) : Int)), none, some (vI 1), some (vI ((k + 1 : Nat) : Int))] [] S (up J 345 (k % 40) ((J 345 (k / 40)) + 1)) Q
        refine v_goto 42 dX5_findFar_121 (by decide) ?_
        exact K
      · have K := K2 cQ
        refine v_goto 118 dX5_findFar_91 (by decide) ?_
        obtain ⟨o12, K⟩ := K
        refine v_iinc dX5_findFar_118 rfl o12 ?_
        show V w 0 mX5_findFar 121 [some (vR 313), some (vI ((o : Nat) : Int)), none, some (vI more), some (vI ((k + 1 : Nat) : Int))] [] S J Q
        refine v_goto 42 dX5_findFar_121 (by decide) ?_
        exact K

theorem finN_0 : ∀ k, finN (fun _ => 1000000) k = 0
  | 0 => rfl
  | k + 1 => by
    unfold finN
    rw [finN_0 k, if_neg (by omega)]
theorem FarW.start (E : Nat → Nat → Prop) {a : Nat} (ha : a < 40) : FarW E a (fun s => if s = a then 0 else 1000000) := by
  have hup := (finN_up (f := fun _ => (1000000 : Int)) (g := fun s => if s = a then (0 : Int) else 1000000) (u := a) (by rw [if_pos rfl]; omega) (fun s hs => if_neg hs) 40).2 ha
  rw [finN_0, if_neg (by omega)] at hup
  refine ⟨if_pos rfl, fun b hb => ?_⟩
  by_cases h : b = a
  · exact Or.inr ⟨0, (if_pos h).trans rfl, h.symm, by rw [hup]; omega⟩
  · exact Or.inl (if_neg h)
theorem FarOk.cong {E : Nat → Nat → Prop} {a : Nat} {f g : Nat → Int} (h : FarOk E a f) (e : ∀ b, b < 40 → g b = f b) : FarOk E a g := fun b hb => by
  rw [e b hb]
  exact h b hb
theorem s_findFar {w : Wd} {S : Sh} {J : Jm} {Q : Out → Sh → Jm → Prop} (hL : Lay S) (o a : Nat) (ho : o < 2) (ha : a < 40) (h01 : ∀ p : Nat, p < 3200 → J 341 p = 0 ∨ J 341 p = 1)
    (K : ∀ J', (∀ b k, b ≠ 345 → J' b k = J b k) → FarOk (lkE J o) a (J' 345) → Q (.inl none) S J') : V w 0 mX5_findFar 0 (ent mX5_findFar [vR 313, vI (o : Int), vI (a : Int)]) [] S J Q := by
  have rounds : ∀ (M : Nat) (f : Nat → Int) (J2 : Jm), sumL (fun s => (f s).toNat) 40 < M → FarW (lkE J o) a f → (∀ b k, b ≠ 345 → J2 b k = J b k) → (∀ s : Nat, s < 40 → J2 345 s = f s) → V w 0 mX5_findFar 33 [some (vR 313), some (vI (o : Int)), none, some (vI 1), none] [] S J2 Q := by
    intro M
    induction M with
    | zero =>
      intro f J2 hM
      exact absurd hM (by omega)
    | succ M ihM =>
      intro f J2 hM hW f2 l2
      refine gX5_findFar_33 (J := J2) hL o 1 (br_n (by omega) ?_)
      have inner : ∀ (n k : Nat) (more : Int) (f' : Nat → Int) (J3 : Jm), k + n = 1600 → FarW (lkE J o) a f' → (∀ b k, b ≠ 345 → J3 b k = J b k) → (∀ s : Nat, s < 40 → J3 345 s = f' s) → ((more = 0 ∧ sumL (fun s => (f' s).toNat) 40 = sumL (fun s => (f s).toNat) 40 ∧ ∀ u v, 40 * u + v < k → lkE J o u v → f' v ≤ f' u + 1) ∨ (more = 1 ∧ sumL (fun s => (f' s).toNat) 40 < sumL (fun s => (f s).toNat) 40)) → V w 0 mX5_findFar 42 [some (vR 313), some (vI (o : Int)), none, some (vI more), some (vI (k : Int))] [] S J3 Q := by
        intro n
        induction n with
        | zero =>
          intro k more f' J3 hk hW' f3 l3 hI
          refine gX5_findFar_42 (J := J3) hL o more k (br_y (by omega) ?_)
          rcases hI with ⟨rfl, -, hE⟩ | ⟨rfl, hs⟩
          · refine gX5_findFar_33 (J := J3) hL o 0 (br_y rfl (K J3 f3 ?_))
            exact (hW'.fin (fun u v h => ⟨h.1, h.2.1⟩) ha (fun u v h => hE u v (by have := h.1; have := h.2.1; omega) h)).cong l3
          · exact ihM f' J3 (by omega) hW' f3 l3
        | succ n ihn =>
          intro k more f' J3 hk hW' f3 l3 hI
          have eL : J3 341 (1600 * o + k) = J 341 (1600 * o + k) := f3 _ _ (by decide)
          have z01 := h01 (1600 * o + k) (by omega)
          have hkk : 40 * (k / 40) + k % 40 = k := by omega
          have eu := l3 (k / 40) (by omega)
          have ev := l3 (k % 40) (by omega)
          have hle := finN_le f' 40
          have hfu := hW'.2 (k / 40) (by omega)
          have hfv := hW'.2 (k % 40) (by omega)
          have bu : 0 ≤ f' (k / 40) ∧ f' (k / 40) ≤ 1000000 := by
            rcases hfu with q | ⟨m, q, -, q3⟩ <;> omega
          have bv : 0 ≤ f' (k % 40) ∧ f' (k % 40) ≤ 1000000 := by
            rcases hfv with q | ⟨m, q, -, q3⟩ <;> omega
          clear hfu hfv
          refine gX5_findFar_42 (J := J3) hL o more k (br_n (by omega) ?_)
          repeat' (first | (refine And.intro ?_ ?_; omega))
          rw [eL]
          refine br_i (fun hb => ?_) (fun hb => ?_)
          · refine And.intro (by omega) ?_
            refine ihn (k + 1) more f' J3 (by omega) hW' f3 l3 ?_
            rcases hI with ⟨q1, q2, hE⟩ | q
            · refine Or.inl ⟨q1, q2, fun u v huv hl => ?_⟩
              rcases Nat.lt_or_ge (40 * u + v) k with q | q
              · exact hE u v q hl
              · exfalso
                have := hl.2.2
                rw [show 1600 * o + 40 * u + v = 1600 * o + k by omega] at this
                omega
            · exact Or.inr q
          · have hedge : lkE J o (k / 40) (k % 40) := ⟨by omega, by omega, by rw [show 1600 * o + 40 * (k / 40) + k % 40 = 1600 * o + k by omega]; omega⟩
            repeat' (first | (refine And.intro ?_ ?_; omega))
            rw [eu, ev]
            repeat' (first | (refine And.intro ?_ ?_; omega))
            refine br_i (fun hb2 => ?_) (fun hb2 => ?_)
            · repeat' (first | (refine And.intro ?_ ?_; omega))
              refine ihn (k + 1) 1 (fun s => if s = k % 40 then f' (k / 40) + 1 else f' s) _ (by omega) (hW'.step (by omega) (by omega) hedge hb2) (fun b j hb => by rw [up_na hb]; exact f3 b j hb) (fun s hs => ?_) (Or.inr ⟨rfl, ?_⟩)
              · by_cases hsv : s = k % 40
                · rw [if_pos hsv, hsv, up_self]
                · rw [if_neg hsv, up_nk hsv]; exact l3 s hs
              · have h9 := (sumL_lt (L := fun s => (f' s).toNat) (L' := fun s => (if s = k % 40 then f' (k / 40) + 1 else f' s).toNat) (u := k % 40) (by rw [if_pos rfl]; omega) (fun s hs => by rw [if_neg hs]) 40).1 (by omega)
                rcases hI with ⟨-, q, -⟩ | ⟨-, q⟩ <;> omega
            · refine And.intro (by omega) ?_
              refine ihn (k + 1) more f' J3 (by omega) hW' f3 l3 ?_
              rcases hI with ⟨q1, q2, hE⟩ | q
              · refine Or.inl ⟨q1, q2, fun u v huv hl => ?_⟩
                rcases Nat.lt_or_ge (40 * u + v) k with q | q
                · exact hE u v q hl
                · have h8 := hl.1
                  have h7 := hl.2.1
                  obtain rfl : u = k / 40 := by omega
                  obtain rfl : v = k % 40 := by omega
                  omega
              · exact Or.inr q
      exact inner 1600 0 0 f J2 (by omega) hW f2 l2 (Or.inl ⟨rfl, rfl, fun u v h => absurd h (by omega)⟩)
  refine gX5_findFar_0 hL o a ?_
  refine up_loop (P := fun s J1 => (∀ b k, b ≠ 345 → J1 b k = J b k) ∧ ∀ j : Nat, j < s → J1 345 j = if j = a then 0 else 1000000) 40
    (fun s J1 => V w 0 mX5_findFar 2 [some (vR 313), some (vI (o : Int)), some (vI (a : Int)), some (vI (s : Int)), none] [] S J1 Q) ?_ ?_ 0 J (by omega) ⟨fun _ _ _ => rfl, fun j hj => absurd hj (by omega)⟩
  · intro s J1 hs ⟨f1, l1⟩ ih
    have st : ∀ z : Int, z = (if s = a then 0 else 1000000) → V w 0 mX5_findFar 2 [some (vR 313), some (vI (o : Int)), some (vI (a : Int)), some (vI ((s + 1 : Nat) : Int)), none] [] S (up J1 345 s z) Q := by
      intro z hz
      refine ih _ ⟨fun b k hb => by rw [up_na hb]; exact f1 b k hb, fun j hj => ?_⟩
      by_cases hjs : j = s
      · rw [hjs, up_self, hz]
      · rw [up_nk hjs]; exact l1 j (by omega)
    refine gX5_findFar_2 (J := J1) hL o a s (br_n (by omega) (br_i (fun c => ?_) (fun c => ?_)))
    · repeat' (first | (refine And.intro ?_ ?_; omega))
      exact st 0 (by rw [if_pos (by omega)])
    · repeat' (first | (refine And.intro ?_ ?_; omega))
      exact st 1000000 (by rw [if_neg (by omega)])
  · intro J1 ⟨f1, l1⟩
    refine gX5_findFar_2 (J := J1) hL o a 40 (br_y (by omega) ?_)
    exact rounds _ _ J1 (Nat.lt_succ_self _) (FarW.start _ ha) f1 (fun s hs => l1 s hs)
