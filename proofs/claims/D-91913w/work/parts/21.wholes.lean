/-! the model: rules by a day; rows that can be read whole -/
set_option maxRecDepth 100000
theorem gX5_rulesBy_0 {w : Wd} {S : Sh} {J : Jm} {Q : Out → Sh → Jm → Prop} (hL : Lay S) (known : Int)
    (K : V w 0 mX5_rulesBy 4 [some (vR 313), some (vI known), some (vI (-1)), some (vI 0)] [] S J Q) :
    V w 0 mX5_rulesBy 0 (ent mX5_rulesBy [vR 313, vI known]) [] S J Q := by
  show V w 0 mX5_rulesBy 0 [some (vR 313), some (vI known), none, none] [] S J Q
  refine v_iconst dX5_rulesBy_0 (in_lit (by decide)) ?_
  refine v_istore_n dX5_rulesBy_1 (Nat.le_of_ble_eq_true rfl) ?_
  show V w 0 mX5_rulesBy 2 [some (vR 313), some (vI known), some (vI (-1)), none] [] S J Q
  refine v_iconst dX5_rulesBy_2 (in_lit (by decide)) ?_
  refine v_istore_n dX5_rulesBy_3 (Nat.le_of_ble_eq_true rfl) ?_
  show V w 0 mX5_rulesBy 4 [some (vR 313), some (vI known), some (vI (-1)), some (vI 0)] [] S J Q
  exact K
theorem gX5_rulesBy_4 {w : Wd} {S : Sh} {J : Jm} {Q : Out → Sh → Jm → Prop} (hL : Lay S) (known : Int) (f : Int) (k : Nat)
    (K : Br (J 313 8 ≤ ((k : Nat) : Int)) (Q (.inl (some (vI f))) S J) ((((k : Nat) : Int) < 10) ∧ Br (known < J 319 k) ((-2147483648 ≤ ((k : Nat) : Int) + 1 ∧ ((k : Nat) : Int) + 1 ≤ 2147483647) ∧ V w 0 mX5_rulesBy 4 [some (vR 313), some (vI known), some (vI f), some (vI ((k + 1 : Nat) : Int))] [] S J Q) ((-2147483648 ≤ ((k : Nat) : Int) + 1 ∧ ((k : Nat) : Int) + 1 ≤ 2147483647) ∧ V w 0 mX5_rulesBy 4 [some (vR 313), some (vI known), some (vI ((k : Nat) : Int)), some (vI ((k + 1 : Nat) : Int))] [] S J Q))) :
    V w 0 mX5_rulesBy 4 [some (vR 313), some (vI known), some (vI f), some (vI ((k : Nat) : Int))] [] S J Q := by
  refine v_iload_n dX5_rulesBy_4 rfl ?_
  refine v_aload_n dX5_rulesBy_5 rfl ?_
  refine v_getI dX5_rulesBy_6 frX5_282_5 rfl rfl (L_313 hL).1 ?_
  obtain ⟨K1, K2⟩ := K
  refine v_icmp_ge 30 dX5_rulesBy_9 (by decide) (fun c => ?_) (fun c => ?_)
  · have K := K1 c
    refine v_iload_n dX5_rulesBy_30 rfl ?_
    exact v_iret dX5_rulesBy_31 rfl rfl K
  · have K := K2 c
    refine v_aload_n dX5_rulesBy_12 rfl ?_
    refine v_getR dX5_rulesBy_13 frX5_29_5 rfl (L_313 hL).1 (LR_313_9 hL) (Or.inl rfl) ?_
    refine v_iload_n dX5_rulesBy_16 rfl ?_
    obtain ⟨o1, K⟩ := K
    refine ld_319 dX5_rulesBy_17 hL (by omega) o1 ?_
    show V w 0 mX5_rulesBy 18 [some (vR 313), some (vI known), some (vI f), some (vI ((k : Nat) : Int))] [vI (J 319 k)] S J Q
    refine v_iload_n dX5_rulesBy_18 rfl ?_
    obtain ⟨K1, K2⟩ := K
    refine v_icmp_gt 24 dX5_rulesBy_19 (by decide) (fun c => ?_) (fun c => ?_)
    · have K := K1 c
      obtain ⟨o2, K⟩ := K
      refine v_iinc dX5_rulesBy_24 rfl o2 ?_
      show V w 0 mX5_rulesBy 27 [some (vR 313), some (vI known), some (vI f), some (vI ((k + 1 : Nat) : Int))] [] S J Q
      refine v_goto 4 dX5_rulesBy_27 (by decide) ?_
      exact K
    · have K := K2 c
      refine v_iload_n dX5_rulesBy_22 rfl ?_
      refine v_istore_n dX5_rulesBy_23 (Nat.le_of_ble_eq_true rfl) ?_
      show V w 0 mX5_rulesBy 24 [some (vR 313), some (vI known), some (vI ((k : Nat) : Int)), some (vI ((k : Nat) : Int))] [] S J Q
      obtain ⟨o3, K⟩ := K
      refine v_iinc dX5_rulesBy_24 rfl o3 ?_
      show V w 0 mX5_rulesBy 27 [some (vR 313), some (vI known), some (vI ((k : Nat) : Int)), some (vI ((k + 1 : Nat) : Int))] [] S J Q
      refine v_goto 4 dX5_rulesBy_27 (by decide) ?_
      exact K

/-- the latest of the first k texts that had come by a day; -1 -/
def rbN (J : Jm) (known : Int) : Nat → Int
  | 0 => -1
  | k + 1 => if J 319 k ≤ known then (k : Int) else rbN J known k
def rbOf (J : Jm) (known : Int) : Int := rbN J known (J 313 8).toNat
theorem rbN_in (J : Jm) (known : Int) : ∀ k, -1 ≤ rbN J known k ∧ rbN J known k < k
  | 0 => by simp [rbN]
  | k + 1 => by
    have := rbN_in J known k
    unfold rbN
    push_cast
    split <;> omega
theorem rbN_mp {J J' : Jm} (h : Mp J J') (known : Int) : ∀ k, rbN J' known k = rbN J known k
  | 0 => rfl
  | k + 1 => by
    unfold rbN
    rw [h 319 k rfl, rbN_mp h known k]
theorem rbOf_mp {J J' : Jm} (h : Mp J J') (known : Int) : rbOf J' known = rbOf J known := by
  unfold rbOf
  rw [h 313 8 rfl, rbN_mp h]
theorem s_rulesBy {w : Wd} {S : Sh} {J : Jm} {Q : Out → Sh → Jm → Prop} (hL : Lay S) (known : Int) (hT : 0 ≤ J 313 8 ∧ J 313 8 ≤ 10) (K : Q (.inl (some (vI (rbOf J known)))) S J) : V w 0 mX5_rulesBy 0 (ent mX5_rulesBy [vR 313, vI known]) [] S J Q := by
  refine gX5_rulesBy_0 hL known ?_
  have key : ∀ (n k : Nat), (k : Int) + n = J 313 8 → V w 0 mX5_rulesBy 4 [some (vR 313), some (vI known), some (vI (rbN J known k)), some (vI (k : Int))] [] S J Q := by
    intro n
    induction n with
    | zero =>
      intro k hk
      refine gX5_rulesBy_4 hL known _ k (br_y (by omega) ?_)
      unfold rbOf at K
      rw [show (J 313 8).toNat = k by omega] at K
      exact K
    | succ n ih =>
      intro k hk
      have ih1 := ih (k + 1) (by omega)
      unfold rbN at ih1
      refine gX5_rulesBy_4 hL known _ k (br_n (by omega) ⟨by omega, br_i (fun c => ⟨by omega, ?_⟩) (fun c => ⟨by omega, ?_⟩)⟩)
      · rw [if_neg (by omega)] at ih1; exact ih1
      · rw [if_pos (by omega)] at ih1; exact ih1
  exact key (J 313 8).toNat 0 (by omega)
theorem gX5_isAlike_0 {w : Wd} {S : Sh} {J : Jm} {Q : Out → Sh → Jm → Prop} (hL : Lay S) (a : Nat) (b : Nat)
    (K : (((a : Nat) : Int) < 192) ∧ (((b : Nat) : Int) < 192) ∧ Br (J 339 a = J 339 b) (V w 0 mX5_isAlike 24 [some (vR 313), some (vI ((a : Nat) : Int)), some (vI ((b : Nat) : Int)), some (vI 1), some (vI 0)] [] S J Q) (V w 0 mX5_isAlike 24 [some (vR 313), some (vI ((a : Nat) : Int)), some (vI ((b : Nat) : Int)), some (vI 0), some (vI 0)] [] S J Q)) :
    V w 0 mX5_isAlike 0 (ent mX5_isAlike [vR 313, vI ((a : Nat) : Int), vI ((b : Nat) : Int)]) [] S J Q := by
  show V w 0 mX5_isAlike 0 [some (vR 313), some (vI ((a : Nat) : Int)), some (vI ((b : Nat) : Int)), none, none] [] S J Q
  refine v_aload_n dX5_isAlike_0 rfl ?_
  refine v_getR dX5_isAlike_1 frX5_94_5 rfl (L_313 hL).1 (LR_313_40 hL) (Or.inl rfl) ?_
  refine v_iload_n dX5_isAlike_4 rfl ?_
  obtain ⟨o1, K⟩ := K
  refine ld_339 dX5_isAlike_5 hL (by omega) o1 ?_
  show V w 0 mX5_isAlike 6 [some (vR 313), some (vI ((a : Nat) : Int)), some (vI ((b : Nat) : Int)), none, none] [vI (J 339 a)] S J Q
  refine v_aload_n dX5_isAlike_6 rfl ?_
  refine v_getR dX5_isAlike_7 frX5_94_5 rfl (L_313 hL).1 (LR_313_40 hL) (Or.inl rfl) ?_
  refine v_iload_n dX5_isAlike_10 rfl ?_
  obtain ⟨o2, K⟩ := K
  refine ld_339 dX5_isAlike_11 hL (by omega) o2 ?_
  show V w 0 mX5_isAlike 12 [some (vR 313), some (vI ((a : Nat) : Int)), some (vI ((b : Nat) : Int)), none, none] [vI (J 339 b), vI (J 339 a)] S J Q
  obtain ⟨K1, K2⟩ := K
  refine v_icmp_ne 19 dX5_isAlike_12 (by decide) (fun c => ?_) (fun c => ?_)
  · have K := K2 c
    refine v_iconst dX5_isAlike_19 (in_lit (by decide)) ?_
    refine v_istore_n dX5_isAlike_20 (Nat.le_of_ble_eq_true rfl) ?_
    show V w 0 mX5_isAlike 21 [some (vR 313), some (vI ((a : Nat) : Int)), some (vI ((b : Nat) : Int)), some (vI 0), none] [] S J Q
    refine v_iconst dX5_isAlike_21 (in_lit (by decide)) ?_
    refine v_istore dX5_isAlike_22 (Nat.le_of_ble_eq_true rfl) ?_
    show V w 0 mX5_isAlike 24 [some (vR 313), some (vI ((a : Nat) : Int)), some (vI ((b : Nat) : Int)), some (vI 0), some (vI 0)] [] S J Q
    exact K
  · have K := K1 c
    refine v_iconst dX5_isAlike_15 (in_lit (by decide)) ?_
    refine v_goto 20 dX5_isAlike_16 (by decide) ?_
    refine v_istore_n dX5_isAlike_20 (Nat.le_of_ble_eq_true rfl) ?_
    show V w 0 mX5_isAlike 21 [some (vR 313), some (vI ((a : Nat) : Int)), some (vI ((b : Nat) : Int)), some (vI 1), none] [] S J Q
    refine v_iconst dX5_isAlike_21 (in_lit (by decide)) ?_
    refine v_istore dX5_isAlike_22 (Nat.le_of_ble_eq_true rfl) ?_
    show V w 0 mX5_isAlike 24 [some (vR 313), some (vI ((a : Nat) : Int)), some (vI ((b : Nat) : Int)), some (vI 1), some (vI 0)] [] S J Q
    exact K
theorem gX5_isAlike_24 {w : Wd} {S : Sh} {J : Jm} {Q : Out → Sh → Jm → Prop} (hL : Lay S) (a : Nat) (b : Nat) (is : Int) (i : Nat)
    (K : (((a : Nat) : Int) < 192) ∧ Br (J 339 a ≤ ((i : Nat) : Int)) ((is = 0 ∨ is = 1) ∧ Q (.inl (some (vI is))) S J) (Br (is = 0) ((is = 0 ∨ is = 1) ∧ Q (.inl (some (vI is))) S J) ((-2147483648 ≤ 6 * ((a : Nat) : Int) ∧ 6 * ((a : Nat) : Int) ≤ 2147483647) ∧ (-2147483648 ≤ ((6 * a : Nat) : Int) + ((i : Nat) : Int) ∧ ((6 * a : Nat) : Int) + ((i : Nat) : Int) ≤ 2147483647) ∧ ((((6 * a) + i : Nat) : Int) < 1152) ∧ (-2147483648 ≤ 6 * ((b : Nat) : Int) ∧ 6 * ((b : Nat) : Int) ≤ 2147483647) ∧ (-2147483648 ≤ ((6 * b : Nat) : Int) + ((i : Nat) : Int) ∧ ((6 * b : Nat) : Int) + ((i : Nat) : Int) ≤ 2147483647) ∧ ((((6 * b) + i : Nat) : Int) < 1152) ∧ Br (J 340 ((6 * a) + i) = J 340 ((6 * b) + i)) ((-2147483648 ≤ ((i : Nat) : Int) + 1 ∧ ((i : Nat) : Int) + 1 ≤ 2147483647) ∧ V w 0 mX5_isAlike 24 [some (vR 313), some (vI ((a : Nat) : Int)), some (vI ((b : Nat) : Int)), some (vI 1), some (vI ((i + 1 : Nat) : Int))] [] S J Q) ((-2147483648 ≤ ((i : Nat) : Int) + 1 ∧ ((i : Nat) : Int) + 1 ≤ 2147483647) ∧ V w 0 mX5_isAlike 24 [some (vR 313), some (vI ((a : Nat) : Int)), some (vI ((b : Nat) : Int)), some (vI 0), some (vI ((i + 1 : Nat) : Int))] [] S J Q)))) :
    V w 0 mX5_isAlike 24 [some (vR 313), some (vI ((a : Nat) : Int)), some (vI ((b : Nat) : Int)), some (vI is), some (vI ((i : Nat) : Int))] [] S J Q := by
  refine v_iload dX5_isAlike_24 rfl ?_
  refine v_aload_n dX5_isAlike_26 rfl ?_
  refine v_getR dX5_isAlike_27 frX5_94_5 rfl (L_313 hL).1 (LR_313_40 hL) (Or.inl rfl) ?_
  refine v_iload_n dX5_isAlike_30 rfl ?_
  obtain ⟨o1, K⟩ := K
  refine ld_339 dX5_isAlike_31 hL (by omega) o1 ?_
  show V w 0 mX5_isAlike 32 [some (vR 313), some (vI ((a : Nat) : Int)), some (vI ((b : Nat) : Int)), some (vI is), some (vI ((i : Nat) : Int))] [vI (J 339 a), vI ((i : Nat) : Int)] S J Q
  obtain ⟨K1, K2⟩ := K
  refine v_icmp_ge 78 dX5_isAlike_32 (by decide) (fun c => ?_) (fun c => ?_)
  · have K := K1 c
    refine v_iload_n dX5_isAlike_78 rfl ?_
    obtain ⟨o2, K⟩ := K
    exact v_iret dX5_isAlike_79 rfl (zfit_bool o2).1 K
  · have K := K2 c
    refine v_iload_n dX5_isAlike_35 rfl ?_
    obtain ⟨K1, K2⟩ := K
    refine v_if_eq 78 dX5_isAlike_36 (by decide) (fun c => ?_) (fun c => ?_)
    · have K := K1 c
      refine v_iload_n dX5_isAlike_78 rfl ?_
      obtain ⟨o3, K⟩ := K
      exact v_iret dX5_isAlike_79 rfl (zfit_bool o3).1 K
    · have K := K2 c
      refine v_aload_n dX5_isAlike_39 rfl ?_
      refine v_getR dX5_isAlike_40 frX5_97_5 rfl (L_313 hL).1 (LR_313_41 hL) (Or.inl rfl) ?_
      refine v_bipush dX5_isAlike_43 (by decide) (in_lit (by decide)) ?_
      refine v_iload_n dX5_isAlike_45 rfl ?_
      obtain ⟨o4, K⟩ := K
      refine v_imul dX5_isAlike_46 o4 ?_
      show V w 0 mX5_isAlike 47 [some (vR 313), some (vI ((a : Nat) : Int)), some (vI ((b : Nat) : Int)), some (vI is), some (vI ((i : Nat) : Int))] [vI ((6 * a : Nat) : Int), vR 340] S J Q
      refine v_iload dX5_isAlike_47 rfl ?_
      obtain ⟨o5, K⟩ := K
      refine v_iadd dX5_isAlike_49 o5 ?_
      show V w 0 mX5_isAlike 50 [some (vR 313), some (vI ((a : Nat) : Int)), some (vI ((b : Nat) : Int)), some (vI is), some (vI ((i : Nat) : Int))] [vI (((6 * a) + i : Nat) : Int), vR 340] S J Q
      obtain ⟨o6, K⟩ := K
      refine ld_340 dX5_isAlike_50 hL (by omega) o6 ?_
      show V w 0 mX5_isAlike 51 [some (vR 313), some (vI ((a : Nat) : Int)), some (vI ((b : Nat) : Int)), some (vI is), some (vI ((i : Nat) : Int))] [vI (J 340 ((6 * a) + i))] S J Q
      refine v_aload_n dX5_isAlike_51 rfl ?_
      refine v_getR dX5_isAlike_52 frX5_97_5 rfl (L_313 hL).1 (LR_313_41 hL) (Or.inl rfl) ?_
      refine v_bipush dX5_isAlike_55 (by decide) (in_lit (by decide)) ?_
      refine v_iload_n dX5_isAlike_57 rfl ?_
      obtain ⟨o7, K⟩ := K
      refine v_imul dX5_isAlike_58 o7 ?_
      show V w 0 mX5_isAlike 59 [some (vR 313), some (vI ((a : Nat) : Int)), some (vI ((b : Nat) : Int)), some (vI is), some (vI ((i : Nat) : Int))] [vI ((6 * b : Nat) : Int), vR 340, vI (J 340 ((6 * a) + i))] S J Q
      refine v_iload dX5_isAlike_59 rfl ?_
      obtain ⟨o8, K⟩ := K
      refine v_iadd dX5_isAlike_61 o8 ?_
      show V w 0 mX5_isAlike 62 [some (vR 313), some (vI ((a : Nat) : Int)), some (vI ((b : Nat) : Int)), some (vI is), some (vI ((i : Nat) : Int))] [vI (((6 * b) + i : Nat) : Int), vR 340, vI (J 340 ((6 * a) + i))] S J Q
      obtain ⟨o9, K⟩ := K
      refine ld_340 dX5_isAlike_62 hL (by omega) o9 ?_
      show V w 0 mX5_isAlike 63 [some (vR 313), some (vI ((a : Nat) : Int)), some (vI ((b : Nat) : Int)), some (vI is), some (vI ((i : Nat) : Int))] [vI (J 340 ((6 * b) + i)), vI (J 340 ((6 * a) + i))] S J Q
      obtain ⟨K1, K2⟩ := K
      refine v_icmp_ne 70 dX5_isAlike_63 (by decide) (fun c => ?_) (fun c => ?_)
      · have K := K2 c
        refine v_iconst dX5_isAlike_70 (in_lit (by decide)) ?_
        refine v_istore_n dX5_isAlike_71 (Nat.le_of_ble_eq_true rfl) ?_
        show V w 0 mX5_isAlike 72 [some (vR 313), some (vI ((a : Nat) : Int)), some (vI ((b : Nat) : Int)), some (vI 0), some (vI ((i : Nat) : Int))] [] S J Q
        obtain ⟨o10, K⟩ := K
        refine v_iinc dX5_isAlike_72 rfl o10 ?_
        show V w 0 mX5_isAlike 75 [some (vR 313), some (vI ((a : Nat) : Int)), some (vI ((b : Nat) : Int)), some (vI 0), some (vI ((i + 1 : Nat) : Int))] [] S J Q
        refine v_goto 24 dX5_isAlike_75 (by decide) ?_
        exact K
      · have K := K1 c
        refine v_iconst dX5_isAlike_66 (in_lit (by decide)) ?_
        refine v_goto 71 dX5_isAlike_67 (by decide) ?_
        refine v_istore_n dX5_isAlike_71 (Nat.le_of_ble_eq_true rfl) ?_
        show V w 0 mX5_isAlike 72 [some (vR 313), some (vI ((a : Nat) : Int)), some (vI ((b : Nat) : Int)), some (vI 1), some (vI ((i : Nat) : Int))] [] S J Q
        obtain ⟨o11, K⟩ := K
        refine v_iinc dX5_isAlike_72 rfl o11 ?_
        show V w 0 mX5_isAlike 75 [some (vR 313), some (vI ((a : Nat) : Int)), some (vI ((b : Nat) : Int)), some (vI 1), some (vI ((i + 1 : Nat) : Int))] [] S J Q
        refine v_goto 24 dX5_isAlike_75 (by decide) ?_
        exact K

theorem mr_eq {α : Type} {f g : Nat → α} {n m : Nat} : (List.range n).map f = (List.range m).map g ↔ n = m ∧ ∀ i, i < n → f i = g i := by
  constructor
  · intro h
    have hl : n = m := by simpa using congrArg List.length h
    subst hl
    refine ⟨rfl, fun i hi => ?_⟩
    have := congrArg (fun l => l[i]?) h
    simpa [hi] using this
  · rintro ⟨rfl, h⟩
    exact List.map_congr_left (fun i hi => h i (List.mem_range.mp hi))
/-- the i-th whole row as it stands in the memory -/
def wrow (J : Jm) (i : Nat) : List Int := (List.range (J 339 i).toNat).map (fun j => J 340 (6 * i + j))
theorem s_isAlike {w : Wd} {S : Sh} {J : Jm} {Q : Out → Sh → Jm → Prop} (hL : Lay S) (x1 x2 : Int) (h1 : 0 ≤ x1 ∧ x1 < 192) (h2 : 0 ≤ x2 ∧ x2 < 192) (hs1 : 0 ≤ J 339 x1.toNat ∧ J 339 x1.toNat ≤ 6) (hs2 : 0 ≤ J 339 x2.toNat ∧ J 339 x2.toNat ≤ 6)
    (K1 : wrow J x1.toNat = wrow J x2.toNat → Q (.inl (some (vI 1))) S J) (K2 : ¬ wrow J x1.toNat = wrow J x2.toNat → Q (.inl (some (vI 0))) S J) : V w 0 mX5_isAlike 0 (ent mX5_isAlike [vR 313, vI x1, vI x2]) [] S J Q := by
  obtain ⟨a, rfl⟩ : ∃ a : Nat, x1 = a := ⟨x1.toNat, by omega⟩
  obtain ⟨b, rfl⟩ : ∃ b : Nat, x2 = b := ⟨x2.toNat, by omega⟩
  simp only [Int.toNat_natCast] at *
  unfold wrow at K1 K2
  rw [mr_eq] at K1 K2
  obtain ⟨N, hN⟩ : ∃ N : Nat, J 339 a = N := ⟨(J 339 a).toNat, by omega⟩
  have key : ∀ (n i : Nat) (is : Int), i + n = N → (is = 1 ∧ J 339 a = J 339 b ∧ (∀ j, j < i → J 340 (6 * a + j) = J 340 (6 * b + j))) ∨ (is = 0 ∧ ¬ (J 339 a = J 339 b ∧ ∀ j, j < N → J 340 (6 * a + j) = J 340 (6 * b + j))) → V w 0 mX5_isAlike 24 [some (vR 313), some (vI (a : Int)), some (vI (b : Int)), some (vI is), some (vI (i : Int))] [] S J Q := by
    intro n
    induction n with
    | zero =>
      intro i is hi hI
      refine gX5_isAlike_24 hL a b is i ⟨by omega, br_y (by omega) ⟨by omega, ?_⟩⟩
      rcases hI with ⟨rfl, e, h⟩ | ⟨rfl, h⟩
      · exact K1 ⟨by omega, fun j hj => h j (by omega)⟩
      · exact K2 (fun q => h ⟨by omega, fun j hj => q.2 j (by omega)⟩)
    | succ n ih =>
      intro i is hi hI
      refine gX5_isAlike_24 hL a b is i ⟨by omega, br_n (by omega) (br_i (fun c => ⟨by omega, ?_⟩) (fun c => ⟨by omega, by omega, by omega, by omega, by omega, by omega, br_i (fun c2 => ⟨by omega, ?_⟩) (fun c2 => ⟨by omega, ?_⟩)⟩))⟩
      · rcases hI with ⟨e, -⟩ | ⟨rfl, h⟩
        · omega
        · exact K2 (fun q => h ⟨by omega, fun j hj => q.2 j (by omega)⟩)
      · rcases hI with ⟨rfl, e, h⟩ | ⟨e, -⟩
        · refine ih (i + 1) 1 (by omega) (Or.inl ⟨rfl, e, fun j hj => ?_⟩)
          rcases Nat.lt_or_ge j i with q | q
          · exact h j q
          · obtain rfl : j = i := by omega
            exact c2
        · omega
      · exact ih (i + 1) 0 (by omega) (Or.inr ⟨rfl, fun q => c2 (q.2 i (by omega))⟩)
  refine gX5_isAlike_0 hL a b ⟨by omega, by omega, br_i (fun c => ?_) (fun c => ?_)⟩
  · exact key N 0 1 (by omega) (Or.inl ⟨rfl, c, fun j hj => absurd hj (by omega)⟩)
  · exact key N 0 0 (by omega) (Or.inr ⟨rfl, fun q => c q.1⟩)
theorem gX5_addWhole_0 {w : Wd} {S : Sh} {J : Jm} {Q : Out → Sh → Jm → Prop} (hL : Lay S) (r : Nat)
    (K : (((r : Nat) : Int) < 200) ∧ (0 ≤ J 313 39) ∧ (J 313 39 < 192) ∧ V w 1 mX5_addWhole 17 [some (vR 313), some (vI ((r : Nat) : Int)), some (vI 0), none] [] S (up J 339 (J 313 39).toNat (J 317 r)) Q) :
    V w 1 mX5_addWhole 0 (ent mX5_addWhole [vR 313, vI ((r : Nat) : Int)]) [] S J Q := by
  show V w 1 mX5_addWhole 0 [some (vR 313), some (vI ((r : Nat) : Int)), none, none] [] S J Q
  refine v_aload_n dX5_addWhole_0 rfl ?_
  refine v_getR dX5_addWhole_1 frX5_94_5 rfl (L_313 hL).1 (LR_313_40 hL) (Or.inl rfl) ?_
  refine v_aload_n dX5_addWhole_4 rfl ?_
  refine v_getI dX5_addWhole_5 frX5_307_5 rfl rfl (L_313 hL).1 ?_
  refine v_aload_n dX5_addWhole_8 rfl ?_
  refine v_getR dX5_addWhole_9 frX5_23_5 rfl (L_313 hL).1 (LR_313_6 hL) (Or.inl rfl) ?_
  refine v_iload_n dX5_addWhole_12 rfl ?_
  obtain ⟨o1, K⟩ := K
  refine ld_317 dX5_addWhole_13 hL (by omega) o1 ?_
  show V w 1 mX5_addWhole 14 [some (vR 313), some (vI ((r : Nat) : Int)), none, none] [vI (J 317 r), vI (J 313 39), vR 339] S J Q
  obtain ⟨o2, K⟩ := K
  obtain ⟨o3, K⟩ := K
  refine st_339 dX5_addWhole_14 hL o2 o3 ?_
  show V w 1 mX5_addWhole 15 [some (vR 313), some (vI ((r : Nat) : Int)), none, none] [] S (up J 339 (J 313 39).toNat (J 317 r)) Q
  refine v_iconst dX5_addWhole_15 (in_lit (by decide)) ?_
  refine v_istore_n dX5_addWhole_16 (Nat.le_of_ble_eq_true rfl) ?_
  show V w 1 mX5_addWhole 17 [some (vR 313), some (vI ((r : Nat) : Int)), some (vI 0), none] [] S (up J 339 (J 313 39).toNat (J 317 r)) Q
  exact K
theorem gX5_addWhole_17 {w : Wd} {S : Sh} {J : Jm} {Q : Out → Sh → Jm → Prop} (hL : Lay S) (r : Nat) (i : Nat)
    (K : (((r : Nat) : Int) < 200) ∧ Br (J 317 r ≤ ((i : Nat) : Int)) (V w 1 mX5_addWhole 73 [some (vR 313), none, some (vI 0), none] [] S J Q) ((-2147483648 ≤ 6 * ((r : Nat) : Int) ∧ 6 * ((r : Nat) : Int) ≤ 2147483647) ∧ (-2147483648 ≤ ((6 * r : Nat) : Int) + ((i : Nat) : Int) ∧ ((6 * r : Nat) : Int) + ((i : Nat) : Int) ≤ 2147483647) ∧ ((((6 * r) + i : Nat) : Int) < 1200) ∧ Br (J 318 ((6 * r) + i) = (-1)) (Q (.inl none) S J) ((-2147483648 ≤ 6 * (J 313 39) ∧ 6 * (J 313 39) ≤ 2147483647) ∧ (-2147483648 ≤ (6 * (J 313 39)) + ((i : Nat) : Int) ∧ (6 * (J 313 39)) + ((i : Nat) : Int) ≤ 2147483647) ∧ (0 ≤ J 318 ((6 * r) + i)) ∧ (J 318 ((6 * r) + i) < 40) ∧ (0 ≤ (6 * (J 313 39)) + ((i : Nat) : Int)) ∧ ((6 * (J 313 39)) + ((i : Nat) : Int) < 1152) ∧ (-2147483648 ≤ ((i : Nat) : Int) + 1 ∧ ((i : Nat) : Int) + 1 ≤ 2147483647) ∧ V w 1 mX5_addWhole 17 [some (vR 313), some (vI ((r : Nat) : Int)), some (vI ((i + 1 : Nat) : Int)), none] [] S (up J 340 ((6 * (J 313 39)) + ((i : Nat) : Int)).toNat (J 332 (J 318 ((6 * r) + i)).toNat)) Q))) :
    V w 1 mX5_addWhole 17 [some (vR 313), some (vI ((r : Nat) : Int)), some (vI ((i : Nat) : Int)), none] [] S J Q := by
  refine v_iload_n dX5_addWhole_17 rfl ?_
  refine v_aload_n dX5_addWhole_18 rfl ?_
  refine v_getR dX5_addWhole_19 frX5_23_5 rfl (L_313 hL).1 (LR_313_6 hL) (Or.inl rfl) ?_
  refine v_iload_n dX5_addWhole_22 rfl ?_
  obtain ⟨o1, K⟩ := K
  refine ld_317 dX5_addWhole_23 hL (by omega) o1 ?_
  show V w 1 mX5_addWhole 24 [some (vR 313), some (vI ((r : Nat) : Int)), some (vI ((i : Nat) : Int)), none] [vI (J 317 r), vI ((i : Nat) : Int)] S J Q
  obtain ⟨K1, K2⟩ := K
  refine v_icmp_ge 71 dX5_addWhole_24 (by decide) (fun c => ?_) (fun c => ?_)
  · have K := K1 c
    refine v_iconst dX5_addWhole_71 (in_lit (by decide)) ?_
    refine v_istore_n dX5_addWhole_72 (Nat.le_of_ble_eq_true rfl) ?_
    show V w 1 mX5_addWhole 73 [some (vR 313), some (vI ((r : Nat) : Int)), some (vI 0), none] [] S J Q
    exact v_forget (fg_some (fg_none (fg_some (fg_none fg_nil)))) K
  · have K := K2 c
    refine v_aload_n dX5_addWhole_27 rfl ?_
    refine v_getR dX5_addWhole_28 frX5_26_5 rfl (L_313 hL).1 (LR_313_7 hL) (Or.inl rfl) ?_
    refine v_bipush dX5_addWhole_31 (by decide) (in_lit (by decide)) ?_
    refine v_iload_n dX5_addWhole_33 rfl ?_
    obtain ⟨o2, K⟩ := K
    refine v_imul dX5_addWhole_34 o2 ?_
    show V w 1 mX5_addWhole 35 [some (vR 313), some (vI ((r : Nat) : Int)), some (vI ((i : Nat) : Int)), none] [vI ((6 * r : Nat) : Int), vR 318] S J Q
    refine v_iload_n dX5_addWhole_35 rfl ?_
    obtain ⟨o3, K⟩ := K
    refine v_iadd dX5_addWhole_36 o3 ?_
    show V w 1 mX5_addWhole 37 [some (vR 313), some (vI ((r : Nat) : Int)), some (vI ((i : Nat) : Int)), none] [vI (((6 * r) + i : Nat) : Int), vR 318] S J Q
    obtain ⟨o4, K⟩ := K
    refine ld_318 dX5_addWhole_37 hL (by omega) o4 ?_
    show V w 1 mX5_addWhole 38 [some (vR 313), some (vI ((r : Nat) : Int)), some (vI ((i : Nat) : Int)), none] [vI (J 318 ((6 * r) + i))] S J Q
    refine v_istore_n dX5_addWhole_38 (Nat.le_of_ble_eq_true rfl) ?_
    show V w 1 mX5_addWhole 39 [some (vR 313), some (vI ((r : Nat) : Int)), some (vI ((i : Nat) : Int)), some (vI (J 318 ((6 * r) + i)))] [] S J Q
    refine v_iload_n dX5_addWhole_39 rfl ?_
    refine v_iconst dX5_addWhole_40 (in_lit (by decide)) ?_
    obtain ⟨K1, K2⟩ := K
    refine v_icmp_ne 45 dX5_addWhole_41 (by decide) (fun c => ?_) (fun c => ?_)
    · have K := K2 c
      refine v_aload_n dX5_addWhole_45 rfl ?_
      refine v_getR dX5_addWhole_46 frX5_97_5 rfl (L_313 hL).1 (LR_313_41 hL) (Or.inl rfl) ?_
      refine v_bipush dX5_addWhole_49 (by decide) (in_lit (by decide)) ?_
      refine v_aload_n dX5_addWhole_51 rfl ?_
      refine v_getI dX5_addWhole_52 frX5_307_5 rfl rfl (L_313 hL).1 ?_
      obtain ⟨o5, K⟩ := K
      refine v_imul dX5_addWhole_55 o5 ?_
      refine v_iload_n dX5_addWhole_56 rfl ?_
      obtain ⟨o6, K⟩ := K
      refine v_iadd dX5_addWhole_57 o6 ?_
      refine v_aload_n dX5_addWhole_58 rfl ?_
      refine v_getR dX5_addWhole_59 frX5_72_5 rfl (L_313 hL).1 (LR_313_31 hL) (Or.inl rfl) ?_
      refine v_iload_n dX5_addWhole_62 rfl ?_
      obtain ⟨o7, K⟩ := K
      obtain ⟨o8, K⟩ := K
      refine ld_332 dX5_addWhole_63 hL o7 o8 ?_
      obtain ⟨o9, K⟩ := K
      obtain ⟨o10, K⟩ := K
      refine st_340 dX5_addWhole_64 hL o9 o10 ?_
      show V w 1 mX5_addWhole 65 [some (vR 313), some (vI ((r : Nat) : Int)), some (vI ((i : Nat) : Int)), some (vI (J 318 ((6 * r) + i)))] [] S (up J 340 ((6 * (J 313 39)) + ((i : Nat) : Int)).toNat (J 332 (J 318 ((6 * r) + i)).toNat)) Q
      obtain ⟨o11, K⟩ := K
      refine v_iinc dX5_addWhole_65 rfl o11 ?_
      show V w 1 mX5_addWhole 68 [some (vR 313), some (vI ((r : Nat) : Int)), some (vI ((i + 1 : Nat) : Int)), some (vI (J 318 ((6 * r) + i)))] [] S (up J 340 ((6 * (J 313 39)) + ((i : Nat) : Int)).toNat (J 332 (J 318 ((6 * r) + i)).toNat)) Q
      refine v_goto 17 dX5_addWhole_68 (by decide) ?_
      exact v_forget (fg_some (fg_some (fg_some (fg_none fg_nil)))) K
    · have K := K1 c
      exact v_vret dX5_addWhole_44 rfl K
theorem gX5_addWhole_73 {w : Wd} {S : Sh} {J : Jm} {Q : Out → Sh → Jm → Prop} (hL : Lay S) (k : Nat)
    (K : Br (J 313 39 ≤ ((k : Nat) : Int)) ((-2147483648 ≤ (J 313 39) + 1 ∧ (J 313 39) + 1 ≤ 2147483647) ∧ Q (.inl none) S (up J 313 39 ((J 313 39) + 1))) ((0 ≤ ((k : Nat) : Int) ∧ ((k : Nat) : Int) < 192) ∧ (0 ≤ (J 313 39) ∧ (J 313 39) < 192) ∧ (0 ≤ J 339 ((k : Nat) : Int).toNat ∧ J 339 ((k : Nat) : Int).toNat ≤ 6) ∧ (0 ≤ J 339 (J 313 39).toNat ∧ J 339 (J 313 39).toNat ≤ 6) ∧ Br (wrow J ((k : Nat) : Int).toNat = wrow J (J 313 39).toNat) (Q (.inl none) S J) ((-2147483648 ≤ ((k : Nat) : Int) + 1 ∧ ((k : Nat) : Int) + 1 ≤ 2147483647) ∧ V w 1 mX5_addWhole 73 [some (vR 313), none, some (vI ((k + 1 : Nat) : Int)), none] [] S J Q))) :
    V w 1 mX5_addWhole 73 [some (vR 313), none, some (vI ((k : Nat) : Int)), none] [] S J Q := by
  refine v_iload_n dX5_addWhole_73 rfl ?_
  refine v_aload_n dX5_addWhole_74 rfl ?_
  refine v_getI dX5_addWhole_75 frX5_307_5 rfl rfl (L_313 hL).1 ?_
  obtain ⟨K1, K2⟩ := K
  refine v_icmp_ge 100 dX5_addWhole_78 (by decide) (fun c => ?_) (fun c => ?_)
  · have K := K1 c
    refine v_aload_n dX5_addWhole_100 rfl ?_
    refine v_dup dX5_addWhole_101 trivial ?_
    refine v_getI dX5_addWhole_102 frX5_307_5 rfl rfl (L_313 hL).1 ?_
    refine v_iconst dX5_addWhole_105 (in_lit (by decide)) ?_
    obtain ⟨o1, K⟩ := K
    refine v_iadd dX5_addWhole_106 o1 ?_
    refine v_putI dX5_addWhole_107 frX5_307_5 (fun _ _ _ h => by cases h; exact Or.inl rfl) rfl rfl zfit_int (L_313 hL).1 ?_
    show V w 1 mX5_addWhole 110 [some (vR 313), none, some (vI ((k : Nat) : Int)), none] [] S (up J 313 39 ((J 313 39) + 1)) Q
    exact v_vret dX5_addWhole_110 rfl K
  · have K := K2 c
    refine v_aload_n dX5_addWhole_81 rfl ?_
    refine v_iload_n dX5_addWhole_82 rfl ?_
    refine v_aload_n dX5_addWhole_83 rfl ?_
    refine v_getI dX5_addWhole_84 frX5_307_5 rfl rfl (L_313 hL).1 ?_
    refine v_callV (d' := 0) (rest := []) [vI ((k : Nat) : Int), vI (J 313 39)] dX5_addWhole_87 vrX5_310_5 (L_313 hL).1 rfl rfl (one_I (one_I one_nil)) (Nat.le_of_ble_eq_true rfl) (Nat.le_of_ble_eq_true rfl) (Nat.le_of_ble_eq_true rfl) ?_
    obtain ⟨o2, K⟩ := K
    obtain ⟨o3, K⟩ := K
    obtain ⟨o4, K⟩ := K
    obtain ⟨o5, K⟩ := K
    obtain ⟨K1, K2⟩ := K
    refine s_isAlike hL ((k : Nat) : Int) (J 313 39) o2 o3 o4 o5 (fun c => ?_) (fun c => ?_)
    · have K := K1 c
      show V w 1 mX5_addWhole 90 [some (vR 313), none, some (vI ((k : Nat) : Int)), none] [vI 1] S J Q
      refine v_if_eq 94 dX5_addWhole_90 (by decide) (fun c => absurd c (by decide)) (fun _ => ?_)
      exact v_vret dX5_addWhole_93 rfl K
    · have K := K2 c
      show V w 1 mX5_addWhole 90 [some (vR 313), none, some (vI ((k : Nat) : Int)), none] [vI 0] S J Q
      refine v_if_eq 94 dX5_addWhole_90 (by decide) (fun _ => ?_) (fun c => absurd c (by decide))
      obtain ⟨o6, K⟩ := K
      refine v_iinc dX5_addWhole_94 rfl o6 ?_
      show V w 1 mX5_addWhole 97 [some (vR 313), none, some (vI ((k + 1 : Nat) : Int)), none] [] S J Q
      refine v_goto 73 dX5_addWhole_97 (by decide) ?_
      exact K

/-- the tablets: how many; their rows' sizes; their places -/
def MTab (J : Jm) : Prop := (0 ≤ J 313 2 ∧ J 313 2 ≤ 24) ∧ ∀ t : Nat, (t : Int) < J 313 2 → (1 ≤ J 316 t ∧ J 316 t ≤ 8) ∧ ∀ u : Nat, (u : Int) < J 316 t → (1 ≤ J 317 (8 * t + u) ∧ J 317 (8 * t + u) ≤ 6) ∧ ∀ i : Nat, (i : Int) < J 317 (8 * t + u) → -1 ≤ J 318 (6 * (8 * t + u) + i) ∧ J 318 (6 * (8 * t + u) + i) < 40
/-- a row has a hole; a row's signs as they stand -/
def holeR (J : Jm) (r : Nat) : Bool := (List.range (J 317 r).toNat).any (fun i => J 318 (6 * r + i) == -1)
def rowM (J : Jm) (st : Nat → Int) (r : Nat) : List Int := (List.range (J 317 r).toNat).map (fun i => st (J 318 (6 * r + i)).toNat)
def addR (J : Jm) (st : Nat → Int) (L : List (List Int)) (r : Nat) : List (List Int) := if holeR J r = true then L else if rowM J st r ∈ L then L else L ++ [rowM J st r]
def PWh (J : Jm) (L : List (List Int)) : Prop := J 313 39 = L.length ∧ ∀ i : Nat, i < L.length → (0 ≤ J 339 i ∧ J 339 i ≤ 6) ∧ wrow J i = L.getD i []
def FW (J J' : Jm) : Prop := ∀ a k, a ≠ 339 → a ≠ 340 → ¬ (a = 313 ∧ k = 39) → J' a k = J a k
theorem FW.trans {J J1 J2 : Jm} (h : FW J J1) (h2 : FW J1 J2) : FW J J2 := fun a k q1 q2 q3 => (h2 a k q1 q2 q3).trans (h a k q1 q2 q3)
theorem FW.kp {J J' : Jm} (h : FW J J') : Kp J J' := fun a k q => h a k (fun e => by rw [e] at q; cases q) (fun e => by rw [e] at q; cases q) (fun e => by rw [e.1, e.2] at q; cases q)
theorem wrow_eq {J J' : Jm} {k : Nat} (h : J' 339 k = J 339 k) (h6 : J 339 k ≤ 6) (hc : ∀ j, j < 6 → J' 340 (6 * k + j) = J 340 (6 * k + j)) : wrow J' k = wrow J k := by
  unfold wrow
  rw [h, mr_eq]
  exact ⟨rfl, fun i hi => hc i (by omega)⟩
theorem getD_l {α : Type} {l m : List α} {i : Nat} {d : α} (h : i < l.length) : (l ++ m).getD i d = l.getD i d := by
  rw [List.getD_eq_getElem?_getD, List.getElem?_append_left h, ← List.getD_eq_getElem?_getD]
theorem getD_r {α : Type} {l : List α} {x d : α} : (l ++ [x]).getD l.length d = x := by
  rw [List.getD_eq_getElem?_getD, List.getElem?_append_right (Nat.le_refl _), Nat.sub_self]
  rfl
theorem s_addWhole {w : Wd} {S : Sh} {J : Jm} {Q : Out → Sh → Jm → Prop} (hL : Lay S) (x1 : Int) (st : Nat → Int) (L : List (List Int)) (hr : 0 ≤ x1 ∧ x1 < 192) (hs : 1 ≤ J 317 x1.toNat ∧ J 317 x1.toNat ≤ 6) (hp : ∀ i : Nat, (i : Int) < J 317 x1.toNat → -1 ≤ J 318 (6 * x1.toNat + i) ∧ J 318 (6 * x1.toNat + i) < 40) (hst : ∀ s : Nat, s < 40 → J 332 s = st s) (hW : PWh J L) (hlen : L.length < 192)
    (K : ∀ J', FW J J' → PWh J' (addR J st L x1.toNat) → Q (.inl none) S J') : V w 1 mX5_addWhole 0 (ent mX5_addWhole [vR 313, vI x1]) [] S J Q := by
  obtain ⟨r, rfl⟩ : ∃ r : Nat, x1 = r := ⟨x1.toNat, by omega⟩
  simp only [Int.toNat_natCast] at *
  obtain ⟨n, hn⟩ : ∃ n : Nat, L.length = n := ⟨_, rfl⟩
  have hwn : J 313 39 = n := by rw [hW.1, hn]
  obtain ⟨N, hN⟩ : ∃ N : Nat, J 317 r = N := ⟨(J 317 r).toNat, by omega⟩
  refine gX5_addWhole_0 hL r ⟨by omega, by omega, by omega, ?_⟩
  refine up_loop (P := fun i J1 => FW J J1 ∧ J1 313 39 = n ∧ (∀ k : Nat, J1 339 k = if k = n then (N : Int) else J 339 k) ∧ (∀ p : Nat, p < 6 * n → J1 340 p = J 340 p) ∧ (∀ j : Nat, j < i → J1 340 (6 * n + j) = st (J 318 (6 * r + j)).toNat ∧ J 318 (6 * r + j) ≠ -1)) N
    (fun i J1 => V w 1 mX5_addWhole 17 [some (vR 313), some (vI (r : Int)), some (vI (i : Int)), none] [] S J1 Q) ?_ ?_ 0 _ (by omega) ?_
  · intro i J1 hi ⟨f1, w1, z1, o1, c1⟩ ih
    have e1 : J1 317 r = N := by rw [f1 _ _ (by decide) (by decide) (by omega)]; exact hN
    have e2 : J1 318 (6 * r + i) = J 318 (6 * r + i) := f1 _ _ (by decide) (by decide) (by omega)
    have q := hp i (by omega)
    refine gX5_addWhole_17 (J := J1) hL r i ⟨by omega, br_n (by omega) ⟨by omega, by omega, by omega, ?_⟩⟩
    rw [e2]
    refine br_i (fun c => ?_) (fun c => ⟨by omega, by omega, by omega, by omega, by omega, by omega, by omega, ?_⟩)
    · have hh : holeR J r = true := by
        unfold holeR
        rw [List.any_eq_true]
        exact ⟨i, List.mem_range.mpr (by omega), by rw [c]; rfl⟩
      refine K J1 f1 ?_
      unfold addR
      rw [if_pos hh]
      refine ⟨by rw [w1, hn], fun k hk => ?_⟩
      have h0 := hW.2 k hk
      have ez : J1 339 k = J 339 k := by rw [z1 k, if_neg (by omega)]
      exact ⟨by rw [ez]; exact h0.1, by rw [wrow_eq ez h0.1.2 (fun j hj => o1 _ (by omega))]; exact h0.2⟩
    · have es : J1 332 (J 318 (6 * r + i)).toNat = st (J 318 (6 * r + i)).toNat := by
        rw [f1 _ _ (by decide) (by decide) (by omega)]
        exact hst _ (by omega)
      rw [es, w1]
      refine ih _ ⟨fun a k q1 q2 q3 => by rw [up_na q2]; exact f1 a k q1 q2 q3, by rw [up_na (by decide)]; exact w1, fun k => by rw [up_na (by decide)]; exact z1 k, fun p hp' => by rw [up_nk (by omega)]; exact o1 p hp', fun j hj => ?_⟩
      by_cases hji : j = i
      · subst hji
        rw [show (6 * (n : Int) + (j : Nat)).toNat = 6 * n + j by omega, up_self]
        exact ⟨rfl, c⟩
      · rw [up_nk (by omega)]
        exact c1 j (by omega)
  · intro J1 ⟨f1, w1, z1, o1, c1⟩
    have e1 : J1 317 r = N := by rw [f1 _ _ (by decide) (by decide) (by omega)]; exact hN
    have hnh : ¬ holeR J r = true := by
      unfold holeR
      rw [List.any_eq_true]
      rintro ⟨i, hi, h⟩
      rw [List.mem_range] at hi
      exact (c1 i (by omega)).2 (by simpa using h)
    have hrn : wrow J1 n = rowM J st r := by
      unfold wrow rowM
      rw [z1 n, if_pos rfl, hN, mr_eq]
      exact ⟨rfl, fun i hi => (c1 i (by omega)).1⟩
    have hrk : ∀ k, k < n → (0 ≤ J1 339 k ∧ J1 339 k ≤ 6) ∧ wrow J1 k = L.getD k [] := by
      intro k hk
      have h0 := hW.2 k (by omega)
      have ez : J1 339 k = J 339 k := by rw [z1 k, if_neg (by omega)]
      exact ⟨by rw [ez]; exact h0.1, by rw [wrow_eq ez h0.1.2 (fun j hj => o1 _ (by omega))]; exact h0.2⟩
    have hsn : J1 339 n = N := by rw [z1 n, if_pos rfl]
    refine gX5_addWhole_17 (J := J1) hL r N ⟨by omega, br_y (by omega) ?_⟩
    have key : ∀ (m k : Nat), k + m = n → (∀ j, j < k → L.getD j [] ≠ rowM J st r) → V w 1 mX5_addWhole 73 [some (vR 313), none, some (vI (k : Int)), none] [] S J1 Q := by
      intro m
      induction m with
      | zero =>
        intro k hk hno
        refine gX5_addWhole_73 (J := J1) hL k (br_y (by omega) ⟨by omega, ?_⟩)
        have hni : ¬ rowM J st r ∈ L := by
          intro hm
          obtain ⟨j, hj, e⟩ := List.getElem_of_mem hm
          refine hno j (by omega) ?_
          rw [List.getD_eq_getElem?_getD, List.getElem?_eq_getElem hj]
          exact e
        refine K _ (fun a k q1 q2 q3 => by rw [up_ne q3]; exact f1 a k q1 q2 q3) ?_
        unfold addR
        rw [if_neg hnh, if_neg hni]
        have hw9 : ∀ j, wrow (up J1 313 39 (J1 313 39 + 1)) j = wrow J1 j := fun j => by
          unfold wrow
          rw [up_na (by decide), mr_eq]
          exact ⟨rfl, fun i _ => up_na (by decide)⟩
        refine ⟨by rw [up_self, w1, List.length_append, hn]; rfl, fun j hj => ?_⟩
        rw [List.length_append, List.length_singleton] at hj
        rw [hw9 j, up_na (by decide)]
        rcases Nat.lt_or_ge j n with q | q
        · rw [getD_l (by omega)]
          exact hrk j q
        · obtain rfl : j = n := by omega
          rw [hrn, hsn]
          refine ⟨by omega, ?_⟩
          rw [← hn, getD_r]
      | succ m ih =>
        intro k hk hno
        have hk' := hrk k (by omega)
        refine gX5_addWhole_73 (J := J1) hL k (br_n (by omega) ⟨by omega, by omega, hk'.1, ?_, ?_⟩)
        · rw [w1]
          show 0 ≤ J1 339 n ∧ J1 339 n ≤ 6
          omega
        · rw [w1]
          show Br (wrow J1 k = wrow J1 n) _ _
          rw [hrn, hk'.2]
          refine br_i (fun c => ?_) (fun c => ⟨by omega, ih (k + 1) (by omega) (fun j hj => ?_)⟩)
          · have hin : rowM J st r ∈ L := by
              rw [← c, List.getD_eq_getElem?_getD, List.getElem?_eq_getElem (by omega)]
              exact List.getElem_mem _
            refine K J1 f1 ?_
            unfold addR
            rw [if_neg hnh, if_pos hin]
            exact ⟨by rw [w1, hn], fun j hj => hrk j (by omega)⟩
          · rcases Nat.lt_or_ge j k with q | q
            · exact hno j q
            · obtain rfl : j = k := by omega
              exact c
    exact key n 0 (by omega) (fun j hj => absurd hj (by omega))
  · rw [hwn, hN]
    refine ⟨fun a k q1 q2 q3 => up_na q1, by rw [up_na (by decide)]; exact hwn, fun k => ?_, fun p _ => up_na (by decide), fun j hj => absurd hj (by omega)⟩
    by_cases hk : k = n
    · rw [if_pos hk, hk, show ((n : Int)).toNat = n by omega, up_self]
    · rw [if_neg hk, up_nk (by omega)]
theorem gX5_findWholes_0 {w : Wd} {S : Sh} {J : Jm} {Q : Out → Sh → Jm → Prop} (hL : Lay S) (known : Int)
    (K : V w 2 mX5_findWholes 7 [some (vR 313), some (vI known), some (vI 0), none] [] S (up J 313 39 0) Q) :
    V w 2 mX5_findWholes 0 (ent mX5_findWholes [vR 313, vI known]) [] S J Q := by
  show V w 2 mX5_findWholes 0 [some (vR 313), some (vI known), none, none] [] S J Q
  refine v_aload_n dX5_findWholes_0 rfl ?_
  refine v_iconst dX5_findWholes_1 (in_lit (by decide)) ?_
  refine v_putI dX5_findWholes_2 frX5_307_5 (fun _ _ _ h => by cases h; exact Or.inl rfl) rfl rfl zfit_int (L_313 hL).1 ?_
  show V w 2 mX5_findWholes 5 [some (vR 313), some (vI known), none, none] [] S (up J 313 39 0) Q
  refine v_iconst dX5_findWholes_5 (in_lit (by decide)) ?_
  refine v_istore_n dX5_findWholes_6 (Nat.le_of_ble_eq_true rfl) ?_
  show V w 2 mX5_findWholes 7 [some (vR 313), some (vI known), some (vI 0), none] [] S (up J 313 39 0) Q
  exact K
theorem gX5_findWholes_7 {w : Wd} {S : Sh} {J : Jm} {Q : Out → Sh → Jm → Prop} (hL : Lay S) (known : Int) (t : Nat)
    (K : Br (J 313 2 ≤ ((t : Nat) : Int)) (Q (.inl none) S J) (V w 2 mX5_findWholes 17 [some (vR 313), some (vI known), some (vI ((t : Nat) : Int)), some (vI 0)] [] S J Q)) :
    V w 2 mX5_findWholes 7 [some (vR 313), some (vI known), some (vI ((t : Nat) : Int)), none] [] S J Q := by
  refine v_iload_n dX5_findWholes_7 rfl ?_
  refine v_aload_n dX5_findWholes_8 rfl ?_
  refine v_getI dX5_findWholes_9 frX5_243_5 rfl rfl (L_313 hL).1 ?_
  obtain ⟨K1, K2⟩ := K
  refine v_icmp_ge 58 dX5_findWholes_12 (by decide) (fun c => ?_) (fun c => ?_)
  · have K := K1 c
    exact v_vret dX5_findWholes_58 rfl K
  · have K := K2 c
    refine v_iconst dX5_findWholes_15 (in_lit (by decide)) ?_
    refine v_istore_n dX5_findWholes_16 (Nat.le_of_ble_eq_true rfl) ?_
    show V w 2 mX5_findWholes 17 [some (vR 313), some (vI known), some (vI ((t : Nat) : Int)), some (vI 0)] [] S J Q
    exact K
theorem gX5_findWholes_17 {w : Wd} {S : Sh} {J : Jm} {Q : Out → Sh → Jm → Prop} (hL : Lay S) (known : Int) (t : Nat) (u : Nat)
    (K : (((t : Nat) : Int) < 25) ∧ Br (J 316 t ≤ ((u : Nat) : Int)) ((-2147483648 ≤ ((t : Nat) : Int) + 1 ∧ ((t : Nat) : Int) + 1 ≤ 2147483647) ∧ V w 2 mX5_findWholes 7 [some (vR 313), some (vI known), some (vI ((t + 1 : Nat) : Int)), none] [] S J Q) ((0 ≤ ((t : Nat) : Int) ∧ ((t : Nat) : Int) < 24) ∧ Br (J 314 ((t : Nat) : Int).toNat ≤ known ∧ known < J 315 ((t : Nat) : Int).toNat) ((-2147483648 ≤ 8 * ((t : Nat) : Int) ∧ 8 * ((t : Nat) : Int) ≤ 2147483647) ∧ (-2147483648 ≤ ((8 * t : Nat) : Int) + ((u : Nat) : Int) ∧ ((8 * t : Nat) : Int) + ((u : Nat) : Int) ≤ 2147483647) ∧ V w 1 mX5_addWhole 0 (ent mX5_addWhole [vR 313, vI (((8 * t) + u : Nat) : Int)]) [] S J (CallQ w 2 mX5_findWholes 43 [some (vR 313), some (vI known), some (vI ((t : Nat) : Int)), some (vI ((u : Nat) : Int))] [] Q)) ((-2147483648 ≤ ((t : Nat) : Int) + 1 ∧ ((t : Nat) : Int) + 1 ≤ 2147483647) ∧ V w 2 mX5_findWholes 7 [some (vR 313), some (vI known), some (vI ((t + 1 : Nat) : Int)), none] [] S J Q))) :
    V w 2 mX5_findWholes 17 [some (vR 313), some (vI known), some (vI ((t : Nat) : Int)), some (vI ((u : Nat) : Int))] [] S J Q := by
  refine v_iload_n dX5_findWholes_17 rfl ?_
  refine v_aload_n dX5_findWholes_18 rfl ?_
  refine v_getR dX5_findWholes_19 frX5_20_5 rfl (L_313 hL).1 (LR_313_5 hL) (Or.inl rfl) ?_
  refine v_iload_n dX5_findWholes_22 rfl ?_
  obtain ⟨o1, K⟩ := K
  refine ld_316 dX5_findWholes_23 hL (by omega) o1 ?_
  show V w 2 mX5_findWholes 24 [some (vR 313), some (vI known), some (vI ((t : Nat) : Int)), some (vI ((u : Nat) : Int))] [vI (J 316 t), vI ((u : Nat) : Int)] S J Q
  obtain ⟨K1, K2⟩ := K
  refine v_icmp_ge 52 dX5_findWholes_24 (by decide) (fun c => ?_) (fun c => ?_)
  · have K := K1 c
    obtain ⟨o2, K⟩ := K
    refine v_iinc dX5_findWholes_52 rfl o2 ?_
    show V w 2 mX5_findWholes 55 [some (vR 313), some (vI known), some (vI ((t + 1 : Nat) : Int)), some (vI ((u : Nat) : Int))] [] S J Q
    refine v_goto 7 dX5_findWholes_55 (by decide) ?_
    exact v_forget (fg_some (fg_some (fg_some (fg_none fg_nil)))) K
  · have K := K2 c
    refine v_aload_n dX5_findWholes_27 rfl ?_
    refine v_iload_n dX5_findWholes_28 rfl ?_
    refine v_iload_n dX5_findWholes_29 rfl ?_
    refine v_callV (d' := 1) (rest := []) [vI ((t : Nat) : Int), vI known] dX5_findWholes_30 vrX5_314_5 (L_313 hL).1 rfl rfl (one_I (one_I one_nil)) (Nat.le_of_ble_eq_true rfl) (Nat.le_of_ble_eq_true rfl) (Nat.le_of_ble_eq_true rfl) ?_
    obtain ⟨o3, K⟩ := K
    obtain ⟨K1, K2⟩ := K
    refine sX5_tabletCounts hL ((t : Nat) : Int) known o3 (fun c => ?_) (fun c => ?_)
    · have K := K1 c
      show V w 2 mX5_findWholes 33 [some (vR 313), some (vI known), some (vI ((t : Nat) : Int)), some (vI ((u : Nat) : Int))] [vI 1] S J Q
      refine v_if_eq 52 dX5_findWholes_33 (by decide) (fun c => absurd c (by decide)) (fun _ => ?_)
      refine v_aload_n dX5_findWholes_36 rfl ?_
      refine v_bipush dX5_findWholes_37 (by decide) (in_lit (by decide)) ?_
      refine v_iload_n dX5_findWholes_39 rfl ?_
      obtain ⟨o4, K⟩ := K
      refine v_imul dX5_findWholes_40 o4 ?_
      show V w 2 mX5_findWholes 41 [some (vR 313), some (vI known), some (vI ((t : Nat) : Int)), some (vI ((u : Nat) : Int))] [vI ((8 * t : Nat) : Int), vR 313] S J Q
      refine v_iload_n dX5_findWholes_41 rfl ?_
      obtain ⟨o5, K⟩ := K
      refine v_iadd dX5_findWholes_42 o5 ?_
      show V w 2 mX5_findWholes 43 [some (vR 313), some (vI known), some (vI ((t : Nat) : Int)), some (vI ((u : Nat) : Int))] [vI (((8 * t) + u : Nat) : Int), vR 313] S J Q
      refine v_callV (d' := 1) (rest := []) [vI (((8 * t) + u : Nat) : Int)] dX5_findWholes_43 vrX5_317_5 (L_313 hL).1 rfl rfl (one_I one_nil) (Nat.le_of_ble_eq_true rfl) (Nat.le_of_ble_eq_true rfl) (Nat.le_of_ble_eq_true rfl) ?_
      exact K
    · have K := K2 c
      show V w 2 mX5_findWholes 33 [some (vR 313), some (vI known), some (vI ((t : Nat) : Int)), some (vI ((u : Nat) : Int))] [vI 0] S J Q
      refine v_if_eq 52 dX5_findWholes_33 (by decide) (fun _ => ?_) (fun c => absurd c (by decide))
      obtain ⟨o6, K⟩ := K
      refine v_iinc dX5_findWholes_52 rfl o6 ?_
      show V w 2 mX5_findWholes 55 [some (vR 313), some (vI known), some (vI ((t + 1 : Nat) : Int)), some (vI ((u : Nat) : Int))] [] S J Q
      refine v_goto 7 dX5_findWholes_55 (by decide) ?_
      exact v_forget (fg_some (fg_some (fg_some (fg_none fg_nil)))) K
theorem gX5_findWholes_46 {w : Wd} {S : Sh} {J : Jm} {Q : Out → Sh → Jm → Prop} (hL : Lay S) (known : Int) (t : Nat) (u : Nat)
    (K : (-2147483648 ≤ ((u : Nat) : Int) + 1 ∧ ((u : Nat) : Int) + 1 ≤ 2147483647) ∧ V w 2 mX5_findWholes 17 [some (vR 313), some (vI known), some (vI ((t : Nat) : Int)), some (vI ((u + 1 : Nat) : Int))] [] S J Q) :
    V w 2 mX5_findWholes 46 [some (vR 313), some (vI known), some (vI ((t : Nat) : Int)), some (vI ((u : Nat) : Int))] [] S J Q := by
  obtain ⟨o1, K⟩ := K
  refine v_iinc dX5_findWholes_46 rfl o1 ?_
  show V w 2 mX5_findWholes 49 [some (vR 313), some (vI known), some (vI ((t : Nat) : Int)), some (vI ((u + 1 : Nat) : Int))] [] S J Q
  refine v_goto 17 dX5_findWholes_49 (by decide) ?_
  exact K

/-- a tablet counts on a day -/
abbrev tcnt (J : Jm) (t : Nat) (known : Int) : Prop := J 314 t ≤ known ∧ known < J 315 t
def whU (J : Jm) (st : Nat → Int) (t : Nat) (L : List (List Int)) : Nat → List (List Int)
  | 0 => L
  | u + 1 => addR J st (whU J st t L u) (8 * t + u)
def whN (J : Jm) (st : Nat → Int) (known : Int) : Nat → List (List Int)
  | 0 => []
  | t + 1 => if tcnt J t known then whU J st t (whN J st known t) (J 316 t).toNat else whN J st known t
/-- all rows that can be read whole, each once -/
def whOf (J : Jm) (st : Nat → Int) (known : Int) : List (List Int) := whN J st known (J 313 2).toNat
theorem addR_len (J : Jm) (st : Nat → Int) (L : List (List Int)) (r : Nat) : (addR J st L r).length ≤ L.length + 1 := by
  unfold addR
  split
  · omega
  · split
    · omega
    · rw [List.length_append, List.length_singleton]; omega
theorem whU_len (J : Jm) (st : Nat → Int) (t : Nat) (L : List (List Int)) : ∀ u, (whU J st t L u).length ≤ L.length + u
  | 0 => by unfold whU; omega
  | u + 1 => by
    have := whU_len J st t L u
    have := addR_len J st (whU J st t L u) (8 * t + u)
    unfold whU
    omega
theorem whN_len {J : Jm} (hT : MTab J) (st : Nat → Int) (known : Int) : ∀ t : Nat, (t : Int) ≤ J 313 2 → (whN J st known t).length ≤ 8 * t
  | 0, _ => by unfold whN; simp
  | t + 1, h => by
    have := whN_len hT st known t (by omega)
    have := whU_len J st t (whN J st known t) (J 316 t).toNat
    have := (hT.2 t (by omega)).1
    unfold whN
    split <;> omega
theorem MTab.mp {J J' : Jm} (hM : MTab J) (h : Mp J J') : MTab J' := by
  obtain ⟨h0, h1⟩ := hM
  have e0 : J' 313 2 = J 313 2 := h _ _ rfl
  refine ⟨by rw [e0]; exact h0, fun t ht => ?_⟩
  rw [e0] at ht
  obtain ⟨a1, a2⟩ := h1 t ht
  have e1 : J' 316 t = J 316 t := h _ _ (by unfold mper scr; simp; omega)
  refine ⟨by rw [e1]; exact a1, fun u hu => ?_⟩
  rw [e1] at hu
  obtain ⟨b1, b2⟩ := a2 u hu
  have e2 : J' 317 (8 * t + u) = J 317 (8 * t + u) := h _ _ (by unfold mper scr; simp; omega)
  refine ⟨by rw [e2]; exact b1, fun i hi => ?_⟩
  rw [e2] at hi
  have e3 : J' 318 (6 * (8 * t + u) + i) = J 318 (6 * (8 * t + u) + i) := h _ _ (by unfold mper scr; simp; omega)
  rw [e3]
  exact b2 i hi
theorem row_mp {J J' : Jm} (h : Mp J J') {r : Nat} (hr : r < 192) (h6 : J 317 r ≤ 6) (st : Nat → Int) : holeR J' r = holeR J r ∧ rowM J' st r = rowM J st r := by
  have e2 : J' 317 r = J 317 r := h _ _ (by unfold mper scr; simp; omega)
  have e3 : ∀ i : Nat, i < (J 317 r).toNat → J' 318 (6 * r + i) = J 318 (6 * r + i) := fun i hi => h _ _ (by unfold mper scr; simp; omega)
  constructor
  · unfold holeR
    rw [e2]
    rw [Bool.eq_iff_iff, List.any_eq_true, List.any_eq_true]
    constructor
    · rintro ⟨i, hi, q⟩
      exact ⟨i, hi, by rw [← e3 i (List.mem_range.mp hi)]; exact q⟩
    · rintro ⟨i, hi, q⟩
      exact ⟨i, hi, by rw [e3 i (List.mem_range.mp hi)]; exact q⟩
  · unfold rowM
    rw [e2, mr_eq]
    exact ⟨rfl, fun i hi => by rw [e3 i hi]⟩
theorem addR_mp {J J' : Jm} (h : Mp J J') {r : Nat} (hr : r < 192) (h6 : J 317 r ≤ 6) (st : Nat → Int) (L : List (List Int)) : addR J' st L r = addR J st L r := by
  unfold addR
  rw [(row_mp h hr h6 st).1, (row_mp h hr h6 st).2]
theorem s_findWholes {w : Wd} {S : Sh} {J : Jm} {Q : Out → Sh → Jm → Prop} (hL : Lay S) (known : Int) (st : Nat → Int) (hT : MTab J) (hst : ∀ s : Nat, s < 40 → J 332 s = st s) (K : ∀ J', FW J J' → PWh J' (whOf J st known) → Q (.inl none) S J') : V w 2 mX5_findWholes 0 (ent mX5_findWholes [vR 313, vI known]) [] S J Q := by
  obtain ⟨hT0, hT1⟩ := id hT
  obtain ⟨N, hN⟩ : ∃ N : Nat, J 313 2 = N := ⟨(J 313 2).toNat, by omega⟩
  refine gX5_findWholes_0 hL known ?_
  refine up_loop (P := fun t J1 => FW J J1 ∧ PWh J1 (whN J st known t)) N
    (fun t J1 => V w 2 mX5_findWholes 7 [some (vR 313), some (vI known), some (vI (t : Int)), none] [] S J1 Q) ?_ ?_ 0 _ (by omega) ?_
  · intro t J1 ht ⟨f1, p1⟩ ih
    have e0 : J1 313 2 = N := by rw [f1 _ _ (by decide) (by decide) (by decide)]; exact hN
    have ht1 := hT1 t (by omega)
    have hlen := whN_len hT st known t (by omega)
    obtain ⟨M, hM⟩ : ∃ M : Nat, J 316 t = M := ⟨(J 316 t).toNat, by omega⟩
    refine gX5_findWholes_7 (J := J1) hL known t (br_n (by omega) ?_)
    by_cases hc : tcnt J t known
    · refine up_loop (P := fun u J2 => FW J J2 ∧ PWh J2 (whU J st t (whN J st known t) u)) M
        (fun u J2 => V w 2 mX5_findWholes 17 [some (vR 313), some (vI known), some (vI (t : Int)), some (vI (u : Int))] [] S J2 Q) ?_ ?_ 0 J1 (by omega) ⟨f1, p1⟩
      · intro u J2 hu ⟨f2, p2⟩ ih2
        have er : J2 316 t = M := by rw [f2 _ _ (by decide) (by decide) (by omega)]; exact hM
        have ec : J2 314 t = J 314 t := f2 _ _ (by decide) (by decide) (by omega)
        have ew : J2 315 t = J 315 t := f2 _ _ (by decide) (by decide) (by omega)
        have hu1 := ht1.2 u (by omega)
        have es : J2 317 (8 * t + u) = J 317 (8 * t + u) := f2 _ _ (by decide) (by decide) (by omega)
        have hlu := whU_len J st t (whN J st known t) u
        refine gX5_findWholes_17 (J := J2) hL known t u ⟨by omega, br_n (by omega) ⟨by omega, br_y ?_ ⟨by omega, by omega, ?_⟩⟩⟩
        · show J2 314 t ≤ known ∧ known < J2 315 t
          rw [ec, ew]
          exact hc
        · refine s_addWhole hL _ st (whU J st t (whN J st known t) u) (by omega) ?_ ?_ ?_ p2 (by omega) (fun J3 f3 p3 => ?_)
          · show 1 ≤ J2 317 (8 * t + u) ∧ J2 317 (8 * t + u) ≤ 6
            rw [es]; exact hu1.1
          · show ∀ i : Nat, (i : Int) < J2 317 (8 * t + u) → -1 ≤ J2 318 (6 * (8 * t + u) + i) ∧ J2 318 (6 * (8 * t + u) + i) < 40
            intro i hi
            rw [f2 _ _ (by decide) (by decide) (by omega)]
            exact hu1.2 i (by omega)
          · intro s hs
            rw [f2 _ _ (by decide) (by decide) (by omega)]
            exact hst s hs
          · show V w 2 mX5_findWholes 46 [some (vR 313), some (vI known), some (vI (t : Int)), some (vI (u : Int))] [] S J3 Q
            refine gX5_findWholes_46 (J := J3) hL known t u ⟨by omega, ?_⟩
            refine ih2 J3 ⟨f2.trans f3, ?_⟩
            have p3 : PWh J3 (addR J2 st (whU J st t (whN J st known t) u) (8 * t + u)) := p3
            rw [addR_mp f2.kp.mp (by omega) (by omega)] at p3
            exact p3
      · intro J2 ⟨f2, p2⟩
        have er : J2 316 t = M := by rw [f2 _ _ (by decide) (by decide) (by omega)]; exact hM
        refine gX5_findWholes_17 (J := J2) hL known t M ⟨by omega, br_y (by omega) ⟨by omega, ih J2 ⟨f2, ?_⟩⟩⟩
        unfold whN
        rw [if_pos hc, hM]
        exact p2
    · have er : J1 316 t = M := by rw [f1 _ _ (by decide) (by decide) (by omega)]; exact hM
      have ec : J1 314 t = J 314 t := f1 _ _ (by decide) (by decide) (by omega)
      have ew : J1 315 t = J 315 t := f1 _ _ (by decide) (by decide) (by omega)
      refine gX5_findWholes_17 (J := J1) hL known t 0 ⟨by omega, br_n (by omega) ⟨by omega, br_n ?_ ⟨by omega, ih J1 ⟨f1, ?_⟩⟩⟩⟩
      · show ¬ (J1 314 t ≤ known ∧ known < J1 315 t)
        rw [ec, ew]
        exact hc
      · unfold whN
        rw [if_neg hc]
        exact p1
  · intro J1 ⟨f1, p1⟩
    refine gX5_findWholes_7 (J := J1) hL known N (br_y (by rw [f1 _ _ (by decide) (by decide) (by decide)]; omega) (K J1 f1 ?_))
    unfold whOf
    rw [hN]
    exact p1
  · refine ⟨fun a k q1 q2 q3 => up_ne q3, ?_⟩
    unfold whN
    exact ⟨up_self, fun i hi => absurd hi (by simp)⟩
