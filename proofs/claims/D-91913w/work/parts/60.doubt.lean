/-! the model: doubt -/
set_option maxRecDepth 100000
theorem gX5_bits_0 {w : Wd} {S : Sh} {J : Jm} {Q : Out → Sh → Jm → Prop} (hL : Lay S) (x0 : Int)
    (K : V w 0 mX5_bits 4 [some (vI x0), some (vI 0), some (vI 0)] [] S J Q) :
    V w 0 mX5_bits 0 (ent mX5_bits [vI x0]) [] S J Q := by
  show V w 0 mX5_bits 0 [some (vI x0), none, none] [] S J Q
  refine v_iconst dX5_bits_0 (in_lit (by decide)) ?_
  refine v_istore_n dX5_bits_1 (Nat.le_of_ble_eq_true rfl) ?_
  show V w 0 mX5_bits 2 [some (vI x0), some (vI 0), none] [] S J Q
  refine v_iconst dX5_bits_2 (in_lit (by decide)) ?_
  refine v_istore_n dX5_bits_3 (Nat.le_of_ble_eq_true rfl) ?_
  show V w 0 mX5_bits 4 [some (vI x0), some (vI 0), some (vI 0)] [] S J Q
  exact K
theorem gX5_bits_4 {w : Wd} {S : Sh} {J : Jm} {Q : Out → Sh → Jm → Prop} (hL : Lay S) (z : Int) (n : Int) (b : Nat)
    (K : Br (6 ≤ ((b : Nat) : Int)) (Q (.inl (some (vI n))) S J) ((-2147483648 ≤ n + (zand (zshr z ((b : Nat) : Int)) 1) ∧ n + (zand (zshr z ((b : Nat) : Int)) 1) ≤ 2147483647) ∧ (-2147483648 ≤ ((b : Nat) : Int) + 1 ∧ ((b : Nat) : Int) + 1 ≤ 2147483647) ∧ V w 0 mX5_bits 4 [some (vI z), some (vI (n + (zand (zshr z ((b : Nat) : Int)) 1))), some (vI ((b + 1 : Nat) : Int))] [] S J Q)) :
    V w 0 mX5_bits 4 [some (vI z), some (vI n), some (vI ((b : Nat) : Int))] [] S J Q := by
  refine v_iload_n dX5_bits_4 rfl ?_
  refine v_bipush dX5_bits_5 (by decide) (in_lit (by decide)) ?_
  obtain ⟨K1, K2⟩ := K
  refine v_icmp_ge 24 dX5_bits_7 (by decide) (fun c1 => ?_) (fun c1 => ?_)
  · have K := K1 c1
    refine v_iload_n dX5_bits_24 rfl ?_
    exact v_iret dX5_bits_25 rfl rfl K
  · have K := K2 c1
    refine v_iload_n dX5_bits_10 rfl ?_
    refine v_iload_n dX5_bits_11 rfl ?_
    refine v_iload_n dX5_bits_12 rfl ?_
    refine v_ishr dX5_bits_13 ?_
    refine v_iconst dX5_bits_14 (in_lit (by decide)) ?_
    refine v_iand dX5_bits_15 ?_
    obtain ⟨o1, K⟩ := K
    refine v_iadd dX5_bits_16 o1 ?_
    refine v_istore_n dX5_bits_17 (Nat.le_of_ble_eq_true rfl) ?_
    show V w 0 mX5_bits 18 [some (vI z), some (vI (n + (zand (zshr z ((b : Nat) : Int)) 1))), some (vI ((b : Nat) : Int))] [] S J Q
    obtain ⟨o2, K⟩ := K
    refine v_iinc dX5_bits_18 rfl o2 ?_
    show V w 0 mX5_bits 21 [some (vI z), some (vI (n + (zand (zshr z ((b : Nat) : Int)) 1))), some (vI ((b + 1 : Nat) : Int))] [] S J Q
    refine v_goto 4 dX5_bits_21 (by decide) ?_
    exact K

def btN (x : Int) : Nat → Int
  | 0 => 0
  | b + 1 => btN x b + zand (zshr x (b : Int)) 1
/-- how many bits are set -/
def btI (x : Int) : Int := btN x 6
theorem bt_64 : ∀ z : Nat, z < 64 → ∀ b : Nat, b < 6 → zand (zshr (z : Int) (b : Int)) 1 = 0 ∨ zand (zshr (z : Int) (b : Int)) 1 = 1 := by decide +kernel
theorem btN_in {z : Nat} (hz : z < 64) : ∀ b : Nat, b ≤ 6 → 0 ≤ btN (z : Int) b ∧ btN (z : Int) b ≤ (b : Int)
  | 0, _ => by simp [btN]
  | b + 1, hb => by
    have h1 := btN_in hz b (by omega)
    have h2 := bt_64 z hz b (by omega)
    rw [btN]
    push_cast
    omega
theorem s_bits {w : Wd} {S : Sh} {J : Jm} {Q : Out → Sh → Jm → Prop} (hL : Lay S) (x : Int) (hx : 0 ≤ x ∧ x < 64) (K : Q (.inl (some (vI (btI x)))) S J) : V w 0 mX5_bits 0 (ent mX5_bits [vI x]) [] S J Q := by
  obtain ⟨z, rfl⟩ : ∃ m : Nat, x = m := ⟨x.toNat, by omega⟩
  refine gX5_bits_0 hL (z : Int) ?_
  have loop : ∀ (m b : Nat), b + m = 6 → V w 0 mX5_bits 4 [some (vI (z : Int)), some (vI (btN (z : Int) b)), some (vI (b : Int))] [] S J Q := by
    intro m
    induction m with
    | zero =>
      intro b hb
      obtain rfl : b = 6 := by omega
      exact gX5_bits_4 hL (z : Int) _ 6 (br_y (by omega) K)
    | succ m ih =>
      intro b hb
      have h1 := btN_in (z := z) (by omega) b (by omega)
      have h2 := bt_64 z (by omega) b (by omega)
      have ih1 := ih (b + 1) (by omega)
      rw [btN] at ih1
      refine gX5_bits_4 hL (z : Int) _ b (br_n (by omega) ?_)
      (repeat' (first | ((with_reducible refine And.intro ?_ ?_); omega)))
      exact ih1
  exact loop 6 0 (by omega)
theorem gX5_doubt_0 {w : Wd} {S : Sh} {J : Jm} {Q : Out → Sh → Jm → Prop} (hL : Lay S) (known : Int) (what : Int)
    (K : Br (0 ≤ known ∧ known ≤ (J 313 1)) (Br ((0 : Int) ≤ what ∧ what ≤ (1 : Int)) (V w 5 mX5_doubt 29 [some (vR 313), some (vI known), some (vI what), some (vI 0), some (vI 0), none] [] S (up J 313 0 0) Q) (Q (.inl (some (vI (-1)))) S (up J 313 0 0))) (Q (.inl (some (vI (-1)))) S (up J 313 0 0))) :
    V w 5 mX5_doubt 0 (ent mX5_doubt [vR 313, vI known, vI what]) [] S J Q := by
  show V w 5 mX5_doubt 0 [some (vR 313), some (vI known), some (vI what), none, none, none] [] S J Q
  refine v_aload_n dX5_doubt_0 rfl ?_
  refine v_iconst dX5_doubt_1 (in_lit (by decide)) ?_
  refine v_putI dX5_doubt_2 frX5_1_5 (fun _ _ _ h => by cases h; exact Or.inl rfl) rfl rfl zfit_int (L_313 hL).1 ?_
  show V w 5 mX5_doubt 5 [some (vR 313), some (vI known), some (vI what), none, none, none] [] S (up J 313 0 0) Q
  refine v_aload_n dX5_doubt_5 rfl ?_
  refine v_iload_n dX5_doubt_6 rfl ?_
  refine v_callV (d' := 0) (rest := []) [vI known] dX5_doubt_7 vrX5_298_5 (L_313 hL).1 rfl rfl (one_I one_nil) (Nat.le_of_ble_eq_true rfl) (Nat.le_of_ble_eq_true rfl) (Nat.le_of_ble_eq_true rfl) ?_
  obtain ⟨K1, K2⟩ := K
  refine sX5_isKnown hL known  (fun c1 => ?_) (fun c1 => ?_)
  · have K := K1 c1
    show V w 5 mX5_doubt 10 [some (vR 313), some (vI known), some (vI what), none, none, none] [vI 1] S (up J 313 0 0) Q
    refine v_if_eq 22 dX5_doubt_10 (by decide) (fun cQ => absurd cQ (by decide)) (fun _ => ?_)
    refine v_iload_n dX5_doubt_13 rfl ?_
    refine v_iconst dX5_doubt_14 (in_lit (by decide)) ?_
    refine v_iconst dX5_doubt_15 (in_lit (by decide)) ?_
    refine v_callS (d' := 0) (rest := []) [vI what, vI 0, vI 1] dX5_doubt_16 srX5_169 rfl (one_I (one_I (one_I one_nil))) (Nat.le_of_ble_eq_true rfl) (Nat.le_of_ble_eq_true rfl) (Nat.le_of_ble_eq_true rfl) ?_
    obtain ⟨K1, K2⟩ := K
    refine sX5_within hL what (0 : Int) (1 : Int)  (fun c2 => ?_) (fun c2 => ?_)
    · have K := K1 c2
      show V w 5 mX5_doubt 19 [some (vR 313), some (vI known), some (vI what), none, none, none] [vI 1] S (up J 313 0 0) Q
      refine v_if_ne 24 dX5_doubt_19 (by decide) (fun _ => ?_) (fun cQ => absurd cQ (by decide))
      refine v_iconst dX5_doubt_24 (in_lit (by decide)) ?_
      refine v_istore_n dX5_doubt_25 (Nat.le_of_ble_eq_true rfl) ?_
      show V w 5 mX5_doubt 26 [some (vR 313), some (vI known), some (vI what), some (vI 0), none, none] [] S (up J 313 0 0) Q
      refine v_iconst dX5_doubt_26 (in_lit (by decide)) ?_
      refine v_istore dX5_doubt_27 (Nat.le_of_ble_eq_true rfl) ?_
      show V w 5 mX5_doubt 29 [some (vR 313), some (vI known), some (vI what), some (vI 0), some (vI 0), none] [] S (up J 313 0 0) Q
      exact K
    · have K := K2 c2
      show V w 5 mX5_doubt 19 [some (vR 313), some (vI known), some (vI what), none, none, none] [vI 0] S (up J 313 0 0) Q
      refine v_if_ne 24 dX5_doubt_19 (by decide) (fun cQ => absurd cQ (by decide)) (fun _ => ?_)
      refine v_iconst dX5_doubt_22 (in_lit (by decide)) ?_
      exact v_iret dX5_doubt_23 rfl rfl K
  · have K := K2 c1
    show V w 5 mX5_doubt 10 [some (vR 313), some (vI known), some (vI what), none, none, none] [vI 0] S (up J 313 0 0) Q
    refine v_if_eq 22 dX5_doubt_10 (by decide) (fun _ => ?_) (fun cQ => absurd cQ (by decide))
    refine v_iconst dX5_doubt_22 (in_lit (by decide)) ?_
    exact v_iret dX5_doubt_23 rfl rfl K
theorem gX5_doubt_29 {w : Wd} {S : Sh} {J : Jm} {Q : Out → Sh → Jm → Prop} (hL : Lay S) (known : Int) (what : Int) (all : Int) (n : Nat)
    (K : Br (J 313 55 ≤ ((n : Nat) : Int)) (V w 5 mX5_doubt 64 [some (vR 313), some (vI known), some (vI what), some (vI all), some (vI 0), none] [] S J Q) ((0 ≤ ((n : Nat) : Int) ∧ ((n : Nat) : Int) < 6) ∧ (0 ≤ J 350 n ∧ J 350 n < 24) ∧ Br (nacB J known n = true) ((-2147483648 ≤ ((n : Nat) : Int) + 1 ∧ ((n : Nat) : Int) + 1 ≤ 2147483647) ∧ V w 5 mX5_doubt 29 [some (vR 313), some (vI known), some (vI what), some (vI (zor all (zshl 1 ((n : Nat) : Int)))), some (vI ((n + 1 : Nat) : Int)), none] [] S J Q) ((-2147483648 ≤ ((n : Nat) : Int) + 1 ∧ ((n : Nat) : Int) + 1 ≤ 2147483647) ∧ V w 5 mX5_doubt 29 [some (vR 313), some (vI known), some (vI what), some (vI all), some (vI ((n + 1 : Nat) : Int)), none] [] S J Q))) :
    V w 5 mX5_doubt 29 [some (vR 313), some (vI known), some (vI what), some (vI all), some (vI ((n : Nat) : Int)), none] [] S J Q := by
  refine v_iload dX5_doubt_29 rfl ?_
  refine v_aload_n dX5_doubt_31 rfl ?_
  refine v_getI dX5_doubt_32 frX5_383_5 rfl rfl (L_313 hL).1 ?_
  obtain ⟨K1, K2⟩ := K
  refine v_icmp_ge 61 dX5_doubt_35 (by decide) (fun c1 => ?_) (fun c1 => ?_)
  · have K := K1 c1
    refine v_iconst dX5_doubt_61 (in_lit (by decide)) ?_
    refine v_istore dX5_doubt_62 (Nat.le_of_ble_eq_true rfl) ?_
    show V w 5 mX5_doubt 64 [some (vR 313), some (vI known), some (vI what), some (vI all), some (vI 0), none] [] S J Q
    exact K
  · have K := K2 c1
    refine v_aload_n dX5_doubt_38 rfl ?_
    refine v_iload dX5_doubt_39 rfl ?_
    refine v_iload_n dX5_doubt_41 rfl ?_
    refine v_callV (d' := 2) (rest := []) [vI ((n : Nat) : Int), vI known] dX5_doubt_42 vrX5_429_5 (L_313 hL).1 rfl rfl (one_I (one_I one_nil)) (Nat.le_of_ble_eq_true rfl) (Nat.le_of_ble_eq_true rfl) (Nat.le_of_ble_eq_true rfl) ?_
    obtain ⟨o1, K⟩ := K
    obtain ⟨o2, K⟩ := K
    obtain ⟨K1, K2⟩ := K
    refine s_nameCounts hL ((n : Nat) : Int) known o1 o2 (fun c2 => ?_) (fun c2 => ?_)
    · have K := K1 c2
      show V w 5 mX5_doubt 45 [some (vR 313), some (vI known), some (vI what), some (vI all), some (vI ((n : Nat) : Int)), none] [vI 1] S J Q
      refine v_if_eq 55 dX5_doubt_45 (by decide) (fun cQ => absurd cQ (by decide)) (fun _ => ?_)
      refine v_iload_n dX5_doubt_48 rfl ?_
      refine v_iconst dX5_doubt_49 (in_lit (by decide)) ?_
      refine v_iload dX5_doubt_50 rfl ?_
      refine v_ishl dX5_doubt_52 ?_
      refine v_ior dX5_doubt_53 ?_
      refine v_istore_n dX5_doubt_54 (Nat.le_of_ble_eq_true rfl) ?_
      show V w 5 mX5_doubt 55 [some (vR 313), some (vI known), some (vI what), some (vI (zor all (zshl 1 ((n : Nat) : Int)))), some (vI ((n : Nat) : Int)), none] [] S J Q
      obtain ⟨o3, K⟩ := K
      refine v_iinc dX5_doubt_55 rfl o3 ?_
      show V w 5 mX5_doubt 58 [some (vR 313), some (vI known), some (vI what), some (vI (zor all (zshl 1 ((n : Nat) : Int)))), some (vI ((n + 1 : Nat) : Int)), none] [] S J Q
      refine v_goto 29 dX5_doubt_58 (by decide) ?_
      exact K
    · have K := K2 c2
      show V w 5 mX5_doubt 45 [some (vR 313), some (vI known), some (vI what), some (vI all), some (vI ((n : Nat) : Int)), none] [vI 0] S J Q
      refine v_if_eq 55 dX5_doubt_45 (by decide) (fun _ => ?_) (fun cQ => absurd cQ (by decide))
      obtain ⟨o4, K⟩ := K
      refine v_iinc dX5_doubt_55 rfl o4 ?_
      show V w 5 mX5_doubt 58 [some (vR 313), some (vI known), some (vI what), some (vI all), some (vI ((n + 1 : Nat) : Int)), none] [] S J Q
      refine v_goto 29 dX5_doubt_58 (by decide) ?_
      exact K
theorem gX5_doubt_64 {w : Wd} {S : Sh} {J : Jm} {Q : Out → Sh → Jm → Prop} (hL : Lay S) (known : Int) (what : Int) (all : Int) (m : Nat)
    (K : Br (6 < ((m : Nat) : Int)) (Q (.inl (some (vI (-1)))) S J) (V w 5 mX5_doubt 74 [some (vR 313), some (vI known), some (vI what), some (vI all), some (vI ((m : Nat) : Int)), some (vI 0)] [] S J Q)) :
    V w 5 mX5_doubt 64 [some (vR 313), some (vI known), some (vI what), some (vI all), some (vI ((m : Nat) : Int)), none] [] S J Q := by
  refine v_iload dX5_doubt_64 rfl ?_
  refine v_bipush dX5_doubt_66 (by decide) (in_lit (by decide)) ?_
  obtain ⟨K1, K2⟩ := K
  refine v_icmp_gt 146 dX5_doubt_68 (by decide) (fun c1 => ?_) (fun c1 => ?_)
  · have K := K1 c1
    refine v_iconst dX5_doubt_146 (in_lit (by decide)) ?_
    exact v_iret dX5_doubt_147 rfl rfl K
  · have K := K2 c1
    refine v_iconst dX5_doubt_71 (in_lit (by decide)) ?_
    refine v_istore dX5_doubt_72 (Nat.le_of_ble_eq_true rfl) ?_
    show V w 5 mX5_doubt 74 [some (vR 313), some (vI known), some (vI what), some (vI all), some (vI ((m : Nat) : Int)), some (vI 0)] [] S J Q
    exact K
theorem gX5_doubt_74 {w : Wd} {S : Sh} {J : Jm} {Q : Out → Sh → Jm → Prop} (hL : Lay S) (known : Int) (what : Int) (all : Int) (m : Nat) (z : Nat)
    (K : Br (all < ((z : Nat) : Int)) ((-2147483648 ≤ ((m : Nat) : Int) + 1 ∧ ((m : Nat) : Int) + 1 ≤ 2147483647) ∧ V w 5 mX5_doubt 64 [some (vR 313), some (vI known), some (vI what), some (vI all), some (vI ((m + 1 : Nat) : Int)), none] [] S J Q) ((0 ≤ ((z : Nat) : Int) ∧ ((z : Nat) : Int) < 64) ∧ Br (btI ((z : Nat) : Int) = ((m : Nat) : Int)) (Br (zand ((z : Nat) : Int) (zxor all (-1)) = 0) ((MI0 J) ∧ (∀ (J1 : Jm), PTk J known ((z : Nat) : Int) J1 → V w 4 mX5_goesThrough 0 (ent mX5_goesThrough [vR 313, vI 1, vI known]) [] S J1 (CallQ w 5 mX5_doubt 112 [some (vR 313), some (vI known), some (vI what), some (vI all), some (vI ((m : Nat) : Int)), some (vI ((z : Nat) : Int))] [] Q))) ((-2147483648 ≤ ((z : Nat) : Int) + 1 ∧ ((z : Nat) : Int) + 1 ≤ 2147483647) ∧ V w 5 mX5_doubt 74 [some (vR 313), some (vI known), some (vI what), some (vI all), some (vI ((m : Nat) : Int)), some (vI ((z + 1 : Nat) : Int))] [] S J Q)) ((-2147483648 ≤ ((z : Nat) : Int) + 1 ∧ ((z : Nat) : Int) + 1 ≤ 2147483647) ∧ V w 5 mX5_doubt 74 [some (vR 313), some (vI known), some (vI what), some (vI all), some (vI ((m : Nat) : Int)), some (vI ((z + 1 : Nat) : Int))] [] S J Q))) :
    V w 5 mX5_doubt 74 [some (vR 313), some (vI known), some (vI what), some (vI all), some (vI ((m : Nat) : Int)), some (vI ((z : Nat) : Int))] [] S J Q := by
  refine v_iload dX5_doubt_74 rfl ?_
  refine v_iload_n dX5_doubt_76 rfl ?_
  obtain ⟨K1, K2⟩ := K
  refine v_icmp_gt 140 dX5_doubt_77 (by decide) (fun c1 => ?_) (fun c1 => ?_)
  · have K := K1 c1
    obtain ⟨o1, K⟩ := K
    refine v_iinc dX5_doubt_140 rfl o1 ?_
    show V w 5 mX5_doubt 143 [some (vR 313), some (vI known), some (vI what), some (vI all), some (vI ((m + 1 : Nat) : Int)), some (vI ((z : Nat) : Int))] [] S J Q
    refine v_goto 64 dX5_doubt_143 (by decide) ?_
    exact v_forget (fg_some (fg_some (fg_some (fg_some (fg_some (fg_none fg_nil)))))) K
  · have K := K2 c1
    refine v_iload dX5_doubt_80 rfl ?_
    refine v_callS (d' := 0) (rest := []) [vI ((z : Nat) : Int)] dX5_doubt_82 srX5_456 rfl (one_I one_nil) (Nat.le_of_ble_eq_true rfl) (Nat.le_of_ble_eq_true rfl) (Nat.le_of_ble_eq_true rfl) ?_
    obtain ⟨o2, K⟩ := K
    refine s_bits hL ((z : Nat) : Int) o2 ?_
    show V w 5 mX5_doubt 85 [some (vR 313), some (vI known), some (vI what), some (vI all), some (vI ((m : Nat) : Int)), some (vI ((z : Nat) : Int))] [vI (btI ((z : Nat) : Int))] S J Q
    refine v_iload dX5_doubt_85 rfl ?_
    obtain ⟨K1, K2⟩ := K
    refine v_icmp_ne 134 dX5_doubt_87 (by decide) (fun c2 => ?_) (fun c2 => ?_)
    · have K := K2 c2
      obtain ⟨o3, K⟩ := K
      refine v_iinc dX5_doubt_134 rfl o3 ?_
      show V w 5 mX5_doubt 137 [some (vR 313), some (vI known), some (vI what), some (vI all), some (vI ((m : Nat) : Int)), some (vI ((z + 1 : Nat) : Int))] [] S J Q
      refine v_goto 74 dX5_doubt_137 (by decide) ?_
      exact K
    · have K := K1 c2
      refine v_iload dX5_doubt_90 rfl ?_
      refine v_iload_n dX5_doubt_92 rfl ?_
      refine v_iconst dX5_doubt_93 (in_lit (by decide)) ?_
      refine v_ixor dX5_doubt_94 ?_
      refine v_iand dX5_doubt_95 ?_
      obtain ⟨K1, K2⟩ := K
      refine v_if_eq 102 dX5_doubt_96 (by decide) (fun c3 => ?_) (fun c3 => ?_)
      · have K := K1 c3
        refine v_aload_n dX5_doubt_102 rfl ?_
        refine v_iload_n dX5_doubt_103 rfl ?_
        refine v_iload dX5_doubt_104 rfl ?_
        refine v_callV (d' := 4) (rest := []) [vI known, vI ((z : Nat) : Int)] dX5_doubt_106 vrX5_432_5 (L_313 hL).1 rfl rfl (one_I (one_I one_nil)) (Nat.le_of_ble_eq_true rfl) (Nat.le_of_ble_eq_true rfl) (Nat.le_of_ble_eq_true rfl) ?_
        obtain ⟨o4, K⟩ := K
        refine s_takesR hL known ((z : Nat) : Int) o4 (fun J1 hp => ?_)
        have K := K J1 hp
        show V w 5 mX5_doubt 109 [some (vR 313), some (vI known), some (vI what), some (vI all), some (vI ((m : Nat) : Int)), some (vI ((z : Nat) : Int))] [] S J1 Q
        refine v_aload_n dX5_doubt_109 rfl ?_
        refine v_iconst dX5_doubt_110 (in_lit (by decide)) ?_
        refine v_iload_n dX5_doubt_111 rfl ?_
        refine v_callV (d' := 4) (rest := []) [vI 1, vI known] dX5_doubt_112 vrX5_435_5 (L_313 hL).1 rfl rfl (one_I (one_I one_nil)) (Nat.le_of_ble_eq_true rfl) (Nat.le_of_ble_eq_true rfl) (Nat.le_of_ble_eq_true rfl) ?_
        exact K
      · have K := K2 c3
        refine v_goto 134 dX5_doubt_99 (by decide) ?_
        obtain ⟨o5, K⟩ := K
        refine v_iinc dX5_doubt_134 rfl o5 ?_
        show V w 5 mX5_doubt 137 [some (vR 313), some (vI known), some (vI what), some (vI all), some (vI ((m : Nat) : Int)), some (vI ((z + 1 : Nat) : Int))] [] S J Q
        refine v_goto 74 dX5_doubt_137 (by decide) ?_
        exact K
theorem gX5_doubt_115 {w : Wd} {S : Sh} {J : Jm} {Q : Out → Sh → Jm → Prop} (hL : Lay S) (known : Int) (what : Int) (all : Int) (m : Nat) (z : Nat)
    (K : Br (J 313 68 ≤ 0) ((-2147483648 ≤ ((z : Nat) : Int) + 1 ∧ ((z : Nat) : Int) + 1 ≤ 2147483647) ∧ V w 5 mX5_doubt 74 [some (vR 313), some (vI known), some (vI what), some (vI all), some (vI ((m : Nat) : Int)), some (vI ((z + 1 : Nat) : Int))] [] S J Q) (Br (what = 0) (Q (.inl (some (vI ((m : Nat) : Int)))) S J) (Q (.inl (some (vI ((z : Nat) : Int)))) S J))) :
    V w 5 mX5_doubt 115 [some (vR 313), some (vI known), some (vI what), some (vI all), some (vI ((m : Nat) : Int)), some (vI ((z : Nat) : Int))] [] S J Q := by
  refine v_aload_n dX5_doubt_115 rfl ?_
  refine v_getI dX5_doubt_116 frX5_411_5 rfl rfl (L_313 hL).1 ?_
  obtain ⟨K1, K2⟩ := K
  refine v_if_le 134 dX5_doubt_119 (by decide) (fun c1 => ?_) (fun c1 => ?_)
  · have K := K1 c1
    obtain ⟨o1, K⟩ := K
    refine v_iinc dX5_doubt_134 rfl o1 ?_
    show V w 5 mX5_doubt 137 [some (vR 313), some (vI known), some (vI what), some (vI all), some (vI ((m : Nat) : Int)), some (vI ((z + 1 : Nat) : Int))] [] S J Q
    refine v_goto 74 dX5_doubt_137 (by decide) ?_
    exact K
  · have K := K2 c1
    refine v_iload_n dX5_doubt_122 rfl ?_
    obtain ⟨K1, K2⟩ := K
    refine v_if_ne 131 dX5_doubt_123 (by decide) (fun c2 => ?_) (fun c2 => ?_)
    · have K := K2 c2
      refine v_iload dX5_doubt_131 rfl ?_
      exact v_iret dX5_doubt_133 rfl rfl K
    · have K := K1 c2
      refine v_iload dX5_doubt_126 rfl ?_
      refine v_goto 133 dX5_doubt_128 (by decide) ?_
      exact v_iret dX5_doubt_133 rfl rfl K

/-- the names that count, as bits -/
def mkN (J : Jm) (known : Int) : Nat → Nat
  | 0 => 0
  | n + 1 => mkN J known n + if nacB J known n = true then 2 ^ n else 0
theorem mkN_lt (J : Jm) (known : Int) : ∀ n, mkN J known n < 2 ^ n
  | 0 => by simp [mkN]
  | n + 1 => by
    have := mkN_lt J known n
    rw [mkN, Nat.pow_succ]
    split <;> omega
theorem zor_bit : ∀ n : Nat, n < 6 → ∀ a : Nat, a < 64 → a < 2 ^ n → zor (a : Int) (zshl 1 (n : Int)) = ((a + 2 ^ n : Nat) : Int) := by decide +kernel
/-- the first from z on, v of them, with p -/
def dbI (p : Nat → Bool) : Nat → Nat → Option Nat
  | 0, _ => none
  | v + 1, z => if p z = true then some z else dbI p v (z + 1)
def dbO (q : Nat → Nat → Bool) (n : Nat) : Nat → Nat → Option (Nat × Nat)
  | 0, _ => none
  | v + 1, m => match dbI (q m) n 0 with
    | some z => some (m, z)
    | none => dbO q n v (m + 1)
/-- without the names z, which are m of those that count, there is a way -/
noncomputable def dbq (J : Jm) (known : Int) (A m z : Nat) : Bool := decide (btI (z : Int) = (m : Int)) && (decide (zand (z : Int) (zxor (A : Int) (-1)) = 0) && !(wyL J known (z : Int)).isEmpty)
noncomputable def rDoubt (J : Jm) (known what : Int) : Int := if kno J known ∧ (0 ≤ what ∧ what ≤ 1) then (match dbO (dbq J known (mkN J known (J 313 55).toNat)) (mkN J known (J 313 55).toNat + 1) 7 0 with
    | none => -1
    | some x => if what = 0 then ((x.1 : Nat) : Int) else ((x.2 : Nat) : Int)) else -1
theorem m_doubt {w : Wd} {S : Sh} {J : Jm} {Q : Out → Sh → Jm → Prop} (hL : Lay S) (known what : Int) (h : MI0 J) (K : ∀ J', Kp J J' → Q (.inl (some (vI (rDoubt J known what)))) S J') : V w 5 mX5_doubt 0 (ent mX5_doubt [vR 313, vI known, vI what]) [] S J Q := by
  have hN := h.2.2.2.2
  have hN1 := hN.1
  have hT1 := h.2.1.1
  unfold rDoubt at K
  have no : ¬ (kno J known ∧ (0 ≤ what ∧ what ≤ 1)) → Q (.inl (some (vI (-1)))) S (up J 313 0 0) := by
    intro q
    have := K _ (k0 J)
    rw [if_neg q] at this
    exact this
  refine gX5_doubt_0 hL known what (br_i (fun h1 => br_i (fun h2 => ?_) (fun h2 => no (fun q => h2 q.2))) (fun h1 => no (fun q => h1 q.1)))
  rw [if_pos ⟨h1, h2⟩] at K
  obtain ⟨M, eM⟩ : ∃ M : Nat, J 313 55 = M := ⟨(J 313 55).toNat, by omega⟩
  rw [eM, Int.toNat_natCast] at K
  have hA := mkN_lt J known M
  have hA6 : mkN J known M < 64 := by
    have : 2 ^ M ≤ 2 ^ 6 := Nat.pow_le_pow_right (by decide) (by omega)
    omega
  -- the search
  have search : ∀ (J1 : Jm), Kp J J1 → V w 5 mX5_doubt 64 [some (vR 313), some (vI known), some (vI what), some (vI ((mkN J known M : Nat) : Int)), some (vI ((0 : Nat) : Int)), none] [] S J1 Q := by
    generalize mkN J known M = A at K hA hA6
    have outer : ∀ (v m : Nat) (J1 : Jm), m + v = 7 → Kp J J1 → dbO (dbq J known A) (A + 1) v m = dbO (dbq J known A) (A + 1) 7 0 → V w 5 mX5_doubt 64 [some (vR 313), some (vI known), some (vI what), some (vI (A : Int)), some (vI (m : Int)), none] [] S J1 Q := by
      intro v
      induction v with
      | zero =>
        intro m J1 hm kp he
        have fin := K J1 kp
        rw [← he] at fin
        exact gX5_doubt_64 (J := J1) hL known what (A : Int) m (br_y (by omega) fin)
      | succ v ih =>
        intro m J1 hm kp he
        rw [dbO] at he
        refine gX5_doubt_64 (J := J1) hL known what (A : Int) m (br_n (by omega) ?_)
        show V w 5 mX5_doubt 74 [some (vR 313), some (vI known), some (vI what), some (vI (A : Int)), some (vI (m : Int)), some (vI ((0 : Nat) : Int))] [] S J1 Q
        have inner : ∀ (u z : Nat) (J2 : Jm), z + u = A + 1 → Kp J J2 → dbI (dbq J known A m) u z = dbI (dbq J known A m) (A + 1) 0 → V w 5 mX5_doubt 74 [some (vR 313), some (vI known), some (vI what), some (vI (A : Int)), some (vI (m : Int)), some (vI (z : Int))] [] S J2 Q := by
          intro u
          induction u with
          | zero =>
            intro z J2 hz kp2 hi
            rw [← hi] at he
            refine gX5_doubt_74 (J := J2) hL known what (A : Int) m z (br_y (by omega) ⟨by omega, ?_⟩)
            exact ih (m + 1) J2 (by omega) kp2 he
          | succ u ihu =>
            intro z J2 hz kp2 hi
            rw [dbI] at hi
            have hm2 := kp2.mp
            have go : ∀ J3, Kp J J3 → ¬ dbq J known A m z = true → V w 5 mX5_doubt 74 [some (vR 313), some (vI known), some (vI what), some (vI (A : Int)), some (vI (m : Int)), some (vI ((z + 1 : Nat) : Int))] [] S J3 Q := by
              intro J3 kp3 hq
              rw [if_neg hq] at hi
              exact ihu (z + 1) J3 (by omega) kp3 hi
            refine gX5_doubt_74 (J := J2) hL known what (A : Int) m z (br_n (by omega) ⟨by omega, br_i (fun c1 => br_i (fun c2 => ⟨h.mp hm2, fun J3 hp3 => ?_⟩) (fun c2 => ⟨by omega, go J2 kp2 (fun q => ?_)⟩)) (fun c1 => ⟨by omega, go J2 kp2 (fun q => ?_)⟩)⟩)
            · refine s_goes1 hL known _ _ hp3.2 (fun J4 f4 e4 => ?_)
              have kp4 : Kp J J4 := (kp2.trans hp3.1.kp).trans f4.kp
              have eW : wy0 (envOf J2 known (tkU J2 known (z : Int) (J2 313 55).toNat)) (tkU J2 known (z : Int) (J2 313 55).toNat).length = wyL J known (z : Int) := wyL_mp h hm2 known (z : Int)
              rw [eW] at e4
              refine gX5_doubt_115 (J := J4) hL known what (A : Int) m z (br_i (fun c3 => ⟨by omega, go J4 kp4 (fun q => ?_)⟩) (fun c3 => ?_))
              · unfold dbq at q
                simp only [Bool.and_eq_true, Bool.not_eq_true', List.isEmpty_eq_false_iff] at q
                have := e4.mpr q.2.2
                omega
              · have hq : dbq J known A m z = true := by
                  unfold dbq
                  simp only [Bool.and_eq_true, Bool.not_eq_true', List.isEmpty_eq_false_iff, decide_eq_true_iff]
                  exact ⟨c1, c2, e4.mp (by omega)⟩
                rw [if_pos hq] at hi
                rw [← hi] at he
                have fin := K J4 kp4
                rw [← he] at fin
                refine br_i (fun c4 => ?_) (fun c4 => ?_)
                · change Q (.inl (some (vI (if what = 0 then ((m : Nat) : Int) else ((z : Nat) : Int))))) S J4 at fin
                  rw [if_pos c4] at fin; exact fin
                · change Q (.inl (some (vI (if what = 0 then ((m : Nat) : Int) else ((z : Nat) : Int))))) S J4 at fin
                  rw [if_neg c4] at fin; exact fin
            · unfold dbq at q
              simp only [Bool.and_eq_true, decide_eq_true_iff] at q
              exact c2 q.2.1
            · unfold dbq at q
              simp only [Bool.and_eq_true, decide_eq_true_iff] at q
              exact c1 q.1
        exact inner (A + 1) 0 J1 (by omega) kp rfl
    intro J1 kp
    exact outer 7 0 J1 (by omega) kp rfl
  have kp0 := k0 J
  have loop : ∀ (m n : Nat), n + m = M → V w 5 mX5_doubt 29 [some (vR 313), some (vI known), some (vI what), some (vI ((mkN J known n : Nat) : Int)), some (vI (n : Int)), none] [] S (up J 313 0 0) Q := by
    intro m
    induction m with
    | zero =>
      intro n hn
      obtain rfl : n = M := by omega
      refine gX5_doubt_29 (J := up J 313 0 0) hL known what _ n (br_y (by rw [up_nk (by decide), eM]; omega) ?_)
      exact search _ kp0
    | succ m ih =>
      intro n hn
      have ih1 := ih (n + 1) (by omega)
      rw [mkN] at ih1
      have hb := (hN.2 n (by omega)).2
      have hlt := mkN_lt J known n
      have h64 : mkN J known n < 64 := by
        have : 2 ^ n ≤ 2 ^ 6 := Nat.pow_le_pow_right (by decide) (by omega)
        omega
      refine gX5_doubt_29 (J := up J 313 0 0) hL known what _ n (br_n (by rw [up_nk (by decide), eM]; omega) ?_)
      rw [nacB_mp kp0.mp known (by omega), up_na (by decide), zor_bit n (by omega) _ h64 hlt]
      refine ⟨by omega, by omega, br_i (fun q => ⟨by omega, ?_⟩) (fun q => ⟨by omega, ?_⟩)⟩
      · rw [if_pos q] at ih1; exact ih1
      · rw [if_neg q] at ih1; exact ih1
  exact loop M 0 (by omega)
