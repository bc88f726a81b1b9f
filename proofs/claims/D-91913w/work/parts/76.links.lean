/-! GridRoom: links -/
set_option maxRecDepth 100000
theorem gX15_placeIn_0 {w : Wd} {S : Sh} {J : Jm} {Q : Out → Sh → Jm → Prop} (hL : Lay S) (p : Nat) (n : Int)
    (K : (Sh.tg S p = 15) ∧ Br (J p 2 ≤ n) (Br (J p 1 = (-1)) ((-2147483648 ≤ n - 1 ∧ n - 1 ≤ 2147483647) ∧ Q (.inl (some (vI (n - 1)))) S J) (Br (J p 1 = 0) (Q (.inl (some (vI 0))) S J) (Br (n < J p 1) (Q (.inl (some (vI (-1)))) S J) ((-2147483648 ≤ (J p 1) - 1 ∧ (J p 1) - 1 ≤ 2147483647) ∧ Q (.inl (some (vI ((J p 1) - 1)))) S J)))) (Q (.inl (some (vI (-1)))) S J)) :
    V w 0 mX15_placeIn 0 (ent mX15_placeIn [vR p, vI n]) [] S J Q := by
  show V w 0 mX15_placeIn 0 [some (vR p), some (vI n)] [] S J Q
  refine v_shp (fun hs0 => ?_)
  refine v_iload_n dX15_placeIn_0 rfl ?_
  refine v_aload_n dX15_placeIn_1 rfl ?_
  obtain ⟨o1, K⟩ := K
  refine v_getI dX15_placeIn_2 frX15_9_15 rfl rfl o1 ?_
  obtain ⟨K1, K2⟩ := K
  refine v_icmp_ge 12 dX15_placeIn_5 (by decide) (fun c1 => ?_) (fun c1 => ?_)
  · have K := K1 c1
    refine v_aload_n dX15_placeIn_12 rfl ?_
    refine v_getI dX15_placeIn_13 frX15_21_15 rfl rfl o1 ?_
    refine v_iconst dX15_placeIn_16 (in_lit (by decide)) ?_
    obtain ⟨K1, K2⟩ := K
    refine v_icmp_ne 26 dX15_placeIn_17 (by decide) (fun c2 => ?_) (fun c2 => ?_)
    · have K := K2 c2
      refine v_aload_n dX15_placeIn_26 rfl ?_
      refine v_getI dX15_placeIn_27 frX15_21_15 rfl rfl o1 ?_
      obtain ⟨K1, K2⟩ := K
      refine v_if_ne 37 dX15_placeIn_30 (by decide) (fun c3 => ?_) (fun c3 => ?_)
      · have K := K2 c3
        refine v_aload_n dX15_placeIn_37 rfl ?_
        refine v_getI dX15_placeIn_38 frX15_21_15 rfl rfl o1 ?_
        refine v_iload_n dX15_placeIn_41 rfl ?_
        obtain ⟨K1, K2⟩ := K
        refine v_icmp_gt 54 dX15_placeIn_42 (by decide) (fun c4 => ?_) (fun c4 => ?_)
        · have K := K1 c4
          refine v_iconst dX15_placeIn_54 (in_lit (by decide)) ?_
          exact v_iret dX15_placeIn_55 rfl rfl K
        · have K := K2 c4
          refine v_aload_n dX15_placeIn_45 rfl ?_
          refine v_getI dX15_placeIn_46 frX15_21_15 rfl rfl o1 ?_
          refine v_iconst dX15_placeIn_49 (in_lit (by decide)) ?_
          obtain ⟨o2, K⟩ := K
          refine v_isub dX15_placeIn_50 o2 ?_
          refine v_goto 55 dX15_placeIn_51 (by decide) ?_
          exact v_iret dX15_placeIn_55 rfl rfl K
      · have K := K1 c3
        refine v_iconst dX15_placeIn_33 (in_lit (by decide)) ?_
        refine v_goto 55 dX15_placeIn_34 (by decide) ?_
        exact v_iret dX15_placeIn_55 rfl rfl K
    · have K := K1 c2
      refine v_iload_n dX15_placeIn_20 rfl ?_
      refine v_iconst dX15_placeIn_21 (in_lit (by decide)) ?_
      obtain ⟨o3, K⟩ := K
      refine v_isub dX15_placeIn_22 o3 ?_
      refine v_goto 55 dX15_placeIn_23 (by decide) ?_
      exact v_iret dX15_placeIn_55 rfl rfl K
  · have K := K2 c1
    refine v_iconst dX15_placeIn_8 (in_lit (by decide)) ?_
    refine v_goto 55 dX15_placeIn_9 (by decide) ?_
    exact v_iret dX15_placeIn_55 rfl rfl K
theorem gX3_puts_0_281 {w : Wd} {S : Sh} {J : Jm} {Q : Out → Sh → Jm → Prop} (hL : Lay S) (o : Nat) (a : Nat) (b : Nat)
    (K : ((0 ≤ ((o : Nat) : Int) ∧ ((o : Nat) : Int) < 2) ∧ (0 ≤ ((a : Nat) : Int) ∧ ((a : Nat) : Int) < 40) ∧ (0 ≤ ((b : Nat) : Int) ∧ ((b : Nat) : Int) < 40)) ∧ (0 ≤ 40 * (40 * ((o : Nat) : Int) + ((a : Nat) : Int)) + ((b : Nat) : Int)) ∧ (40 * (40 * ((o : Nat) : Int) + ((a : Nat) : Int)) + ((b : Nat) : Int) < 3200) ∧ ((0 ≤ ((o : Nat) : Int) ∧ ((o : Nat) : Int) < 2) ∧ (0 ≤ ((b : Nat) : Int) ∧ ((b : Nat) : Int) < 40) ∧ (0 ≤ ((a : Nat) : Int) ∧ ((a : Nat) : Int) < 40)) ∧ (0 ≤ 40 * (40 * ((o : Nat) : Int) + ((b : Nat) : Int)) + ((a : Nat) : Int)) ∧ (40 * (40 * ((o : Nat) : Int) + ((b : Nat) : Int)) + ((a : Nat) : Int) < 3200) ∧ Q (.inl none) S (up (up J 281 (40 * (40 * ((o : Nat) : Int) + ((a : Nat) : Int)) + ((b : Nat) : Int)).toNat 1) 281 (40 * (40 * ((o : Nat) : Int) + ((b : Nat) : Int)) + ((a : Nat) : Int)).toNat 1)) :
    V w 1 mX3_puts 0 (ent mX3_puts [vR 84, vR 281, vI ((o : Nat) : Int), vI ((a : Nat) : Int), vI ((b : Nat) : Int)]) [] S J Q := by
  show V w 1 mX3_puts 0 [some (vR 84), some (vR 281), some (vI ((o : Nat) : Int)), some (vI ((a : Nat) : Int)), some (vI ((b : Nat) : Int))] [] S J Q
  refine v_shp (fun hs0 => ?_)
  refine v_aload_n dX3_puts_0 rfl ?_
  refine v_aload_n dX3_puts_1 rfl ?_
  refine v_iload_n dX3_puts_2 rfl ?_
  refine v_iload_n dX3_puts_3 rfl ?_
  refine v_iload dX3_puts_4 rfl ?_
  refine v_callV (d' := 0) (rest := [vR 281]) [vI ((o : Nat) : Int), vI ((a : Nat) : Int), vI ((b : Nat) : Int)] dX3_puts_6 vrX3_159_3 (L_84 hL).1 rfl rfl (one_I (one_I (one_I one_nil))) (Nat.le_of_ble_eq_true rfl) (Nat.le_of_ble_eq_true rfl) (Nat.le_of_ble_eq_true rfl) ?_
  obtain ⟨o1, K⟩ := K
  refine s_at hL ((o : Nat) : Int) ((a : Nat) : Int) ((b : Nat) : Int) o1 ?_
  show V w 1 mX3_puts 9 [some (vR 84), some (vR 281), some (vI ((o : Nat) : Int)), some (vI ((a : Nat) : Int)), some (vI ((b : Nat) : Int))] [vI (40 * (40 * ((o : Nat) : Int) + ((a : Nat) : Int)) + ((b : Nat) : Int)), vR 281] S J Q
  refine v_iconst dX3_puts_9 (in_lit (by decide)) ?_
  obtain ⟨o2, K⟩ := K
  obtain ⟨o3, K⟩ := K
  refine st_281 dX3_puts_10 hL o2 o3 (zfit_bool (by decide)) ?_
  show V w 1 mX3_puts 11 [some (vR 84), some (vR 281), some (vI ((o : Nat) : Int)), some (vI ((a : Nat) : Int)), some (vI ((b : Nat) : Int))] [] S (up J 281 (40 * (40 * ((o : Nat) : Int) + ((a : Nat) : Int)) + ((b : Nat) : Int)).toNat 1) Q
  refine v_aload_n dX3_puts_11 rfl ?_
  refine v_aload_n dX3_puts_12 rfl ?_
  refine v_iload_n dX3_puts_13 rfl ?_
  refine v_iload dX3_puts_14 rfl ?_
  refine v_iload_n dX3_puts_16 rfl ?_
  refine v_callV (d' := 0) (rest := [vR 281]) [vI ((o : Nat) : Int), vI ((b : Nat) : Int), vI ((a : Nat) : Int)] dX3_puts_17 vrX3_159_3 (L_84 hL).1 rfl rfl (one_I (one_I (one_I one_nil))) (Nat.le_of_ble_eq_true rfl) (Nat.le_of_ble_eq_true rfl) (Nat.le_of_ble_eq_true rfl) ?_
  obtain ⟨o4, K⟩ := K
  refine s_at hL ((o : Nat) : Int) ((b : Nat) : Int) ((a : Nat) : Int) o4 ?_
  show V w 1 mX3_puts 20 [some (vR 84), some (vR 281), some (vI ((o : Nat) : Int)), some (vI ((a : Nat) : Int)), some (vI ((b : Nat) : Int))] [vI (40 * (40 * ((o : Nat) : Int) + ((b : Nat) : Int)) + ((a : Nat) : Int)), vR 281] S (up J 281 (40 * (40 * ((o : Nat) : Int) + ((a : Nat) : Int)) + ((b : Nat) : Int)).toNat 1) Q
  refine v_iconst dX3_puts_20 (in_lit (by decide)) ?_
  obtain ⟨o5, K⟩ := K
  obtain ⟨o6, K⟩ := K
  refine st_281 dX3_puts_21 hL o5 o6 (zfit_bool (by decide)) ?_
  show V w 1 mX3_puts 22 [some (vR 84), some (vR 281), some (vI ((o : Nat) : Int)), some (vI ((a : Nat) : Int)), some (vI ((b : Nat) : Int))] [] S (up (up J 281 (40 * (40 * ((o : Nat) : Int) + ((a : Nat) : Int)) + ((b : Nat) : Int)).toNat 1) 281 (40 * (40 * ((o : Nat) : Int) + ((b : Nat) : Int)) + ((a : Nat) : Int)).toNat 1) Q
  exact v_vret dX3_puts_22 rfl K
theorem gX3_puts_0_282 {w : Wd} {S : Sh} {J : Jm} {Q : Out → Sh → Jm → Prop} (hL : Lay S) (o : Nat) (a : Nat) (b : Nat)
    (K : ((0 ≤ ((o : Nat) : Int) ∧ ((o : Nat) : Int) < 2) ∧ (0 ≤ ((a : Nat) : Int) ∧ ((a : Nat) : Int) < 40) ∧ (0 ≤ ((b : Nat) : Int) ∧ ((b : Nat) : Int) < 40)) ∧ (0 ≤ 40 * (40 * ((o : Nat) : Int) + ((a : Nat) : Int)) + ((b : Nat) : Int)) ∧ (40 * (40 * ((o : Nat) : Int) + ((a : Nat) : Int)) + ((b : Nat) : Int) < 3200) ∧ ((0 ≤ ((o : Nat) : Int) ∧ ((o : Nat) : Int) < 2) ∧ (0 ≤ ((b : Nat) : Int) ∧ ((b : Nat) : Int) < 40) ∧ (0 ≤ ((a : Nat) : Int) ∧ ((a : Nat) : Int) < 40)) ∧ (0 ≤ 40 * (40 * ((o : Nat) : Int) + ((b : Nat) : Int)) + ((a : Nat) : Int)) ∧ (40 * (40 * ((o : Nat) : Int) + ((b : Nat) : Int)) + ((a : Nat) : Int) < 3200) ∧ Q (.inl none) S (up (up J 282 (40 * (40 * ((o : Nat) : Int) + ((a : Nat) : Int)) + ((b : Nat) : Int)).toNat 1) 282 (40 * (40 * ((o : Nat) : Int) + ((b : Nat) : Int)) + ((a : Nat) : Int)).toNat 1)) :
    V w 1 mX3_puts 0 (ent mX3_puts [vR 84, vR 282, vI ((o : Nat) : Int), vI ((a : Nat) : Int), vI ((b : Nat) : Int)]) [] S J Q := by
  show V w 1 mX3_puts 0 [some (vR 84), some (vR 282), some (vI ((o : Nat) : Int)), some (vI ((a : Nat) : Int)), some (vI ((b : Nat) : Int))] [] S J Q
  refine v_shp (fun hs0 => ?_)
  refine v_aload_n dX3_puts_0 rfl ?_
  refine v_aload_n dX3_puts_1 rfl ?_
  refine v_iload_n dX3_puts_2 rfl ?_
  refine v_iload_n dX3_puts_3 rfl ?_
  refine v_iload dX3_puts_4 rfl ?_
  refine v_callV (d' := 0) (rest := [vR 282]) [vI ((o : Nat) : Int), vI ((a : Nat) : Int), vI ((b : Nat) : Int)] dX3_puts_6 vrX3_159_3 (L_84 hL).1 rfl rfl (one_I (one_I (one_I one_nil))) (Nat.le_of_ble_eq_true rfl) (Nat.le_of_ble_eq_true rfl) (Nat.le_of_ble_eq_true rfl) ?_
  obtain ⟨o1, K⟩ := K
  refine s_at hL ((o : Nat) : Int) ((a : Nat) : Int) ((b : Nat) : Int) o1 ?_
  show V w 1 mX3_puts 9 [some (vR 84), some (vR 282), some (vI ((o : Nat) : Int)), some (vI ((a : Nat) : Int)), some (vI ((b : Nat) : Int))] [vI (40 * (40 * ((o : Nat) : Int) + ((a : Nat) : Int)) + ((b : Nat) : Int)), vR 282] S J Q
  refine v_iconst dX3_puts_9 (in_lit (by decide)) ?_
  obtain ⟨o2, K⟩ := K
  obtain ⟨o3, K⟩ := K
  refine st_282 dX3_puts_10 hL o2 o3 (zfit_bool (by decide)) ?_
  show V w 1 mX3_puts 11 [some (vR 84), some (vR 282), some (vI ((o : Nat) : Int)), some (vI ((a : Nat) : Int)), some (vI ((b : Nat) : Int))] [] S (up J 282 (40 * (40 * ((o : Nat) : Int) + ((a : Nat) : Int)) + ((b : Nat) : Int)).toNat 1) Q
  refine v_aload_n dX3_puts_11 rfl ?_
  refine v_aload_n dX3_puts_12 rfl ?_
  refine v_iload_n dX3_puts_13 rfl ?_
  refine v_iload dX3_puts_14 rfl ?_
  refine v_iload_n dX3_puts_16 rfl ?_
  refine v_callV (d' := 0) (rest := [vR 282]) [vI ((o : Nat) : Int), vI ((b : Nat) : Int), vI ((a : Nat) : Int)] dX3_puts_17 vrX3_159_3 (L_84 hL).1 rfl rfl (one_I (one_I (one_I one_nil))) (Nat.le_of_ble_eq_true rfl) (Nat.le_of_ble_eq_true rfl) (Nat.le_of_ble_eq_true rfl) ?_
  obtain ⟨o4, K⟩ := K
  refine s_at hL ((o : Nat) : Int) ((b : Nat) : Int) ((a : Nat) : Int) o4 ?_
  show V w 1 mX3_puts 20 [some (vR 84), some (vR 282), some (vI ((o : Nat) : Int)), some (vI ((a : Nat) : Int)), some (vI ((b : Nat) : Int))] [vI (40 * (40 * ((o : Nat) : Int) + ((b : Nat) : Int)) + ((a : Nat) : Int)), vR 282] S (up J 282 (40 * (40 * ((o : Nat) : Int) + ((a : Nat) : Int)) + ((b : Nat) : Int)).toNat 1) Q
  refine v_iconst dX3_puts_20 (in_lit (by decide)) ?_
  obtain ⟨o5, K⟩ := K
  obtain ⟨o6, K⟩ := K
  refine st_282 dX3_puts_21 hL o5 o6 (zfit_bool (by decide)) ?_
  show V w 1 mX3_puts 22 [some (vR 84), some (vR 282), some (vI ((o : Nat) : Int)), some (vI ((a : Nat) : Int)), some (vI ((b : Nat) : Int))] [] S (up (up J 282 (40 * (40 * ((o : Nat) : Int) + ((a : Nat) : Int)) + ((b : Nat) : Int)).toNat 1) 282 (40 * (40 * ((o : Nat) : Int) + ((b : Nat) : Int)) + ((a : Nat) : Int)).toNat 1) Q
  exact v_vret dX3_puts_22 rfl K

def plI (n le wh : Int) : Int := if le ≤ n then (if wh = -1 then n - 1 else if wh = 0 then 0 else if n < wh then -1 else wh - 1) else -1
theorem s_placeIn {w : Wd} {S : Sh} {J : Jm} {Q : Out → Sh → Jm → Prop} (hL : Lay S) (p : Nat) (n : Int) (ht : S.tg p = 15) (hn : 0 ≤ n ∧ n ≤ 6) (hw : -1 ≤ J p 1 ∧ J p 1 ≤ 7) (K : Q (.inl (some (vI (plI n (J p 2) (J p 1))))) S J) : V w 0 mX15_placeIn 0 (ent mX15_placeIn [vR p, vI n]) [] S J Q := by
  unfold plI at K
  refine gX15_placeIn_0 hL p n ⟨ht, br_i (fun c1 => ?_) (fun c1 => ?_)⟩
  · rw [if_pos c1] at K
    refine br_i (fun c2 => ?_) (fun c2 => ?_)
    · rw [if_pos c2] at K
      exact ⟨by omega, K⟩
    · rw [if_neg c2] at K
      refine br_i (fun c3 => ?_) (fun c3 => ?_)
      · rw [if_pos c3] at K; exact K
      · rw [if_neg c3] at K
        refine br_i (fun c4 => ?_) (fun c4 => ?_)
        · rw [if_pos c4] at K; exact K
        · rw [if_neg c4] at K
          exact ⟨by omega, K⟩
  · rw [if_neg c1] at K; exact K
/-- two rows tell by a clause: in both alike -/
theorem tel_iff {σ : Jm} {c : Nat} {A B : List Int} (h6 : A.length ≤ 6) (hw : 0 ≤ σ 322 c ∧ σ 322 c ≤ 7) : ((0 ≤ ulx A B ∧ ulx A B ≤ 5) ∧ ulx A B = plI (A.length : Int) (σ 323 c) (whX (σ 322 c))) ↔ tls σ c A B := by
  have hs := unl_spec A B
  unfold tls ulx plI whX
  by_cases e : A = B
  · rw [if_pos e]
    constructor
    · intro q; omega
    · rintro ⟨q1, q2, q3⟩
      rcases hs with q | ⟨-, i, q, -, q5, -⟩
      · exact absurd q q1
      · rw [e] at q5; exact absurd rfl q5
  · rw [if_neg e]
    rcases hs with q | ⟨hl, i, q, hi, q5, q6⟩
    · rw [q]
      constructor
      · intro z; omega
      · intro z; exact absurd rfl z.1
    · rw [q]
      constructor
      · rintro ⟨z1, z2⟩
        refine ⟨by omega, ?_, ?_⟩
        · split at z2 <;> omega
        · repeat' split at z2
          all_goals omega
      · rintro ⟨z1, z2, z3⟩
        refine ⟨by omega, ?_⟩
        rw [if_pos z2]
        repeat' split
        all_goals omega

theorem s_putsX {w : Wd} {S : Sh} {J : Jm} {Q : Out → Sh → Jm → Prop} (hL : Lay S) (X : Nat) (o a b : Int) (hX : X = 281 ∨ X = 282) (ho : 0 ≤ o ∧ o < 2) (ha : 0 ≤ a ∧ a < 40) (hb : 0 ≤ b ∧ b < 40) (K : ∀ J', J' = up (up J X (1600 * o.toNat + 40 * a.toNat + b.toNat) 1) X (1600 * o.toNat + 40 * b.toNat + a.toNat) 1 → Q (.inl none) S J') : V w 1 mX3_puts 0 (ent mX3_puts [vR 84, vR X, vI o, vI a, vI b]) [] S J Q := by
  obtain ⟨o, rfl⟩ : ∃ m : Nat, o = m := ⟨o.toNat, by omega⟩
  obtain ⟨a, rfl⟩ : ∃ m : Nat, a = m := ⟨a.toNat, by omega⟩
  obtain ⟨b, rfl⟩ : ∃ m : Nat, b = m := ⟨b.toNat, by omega⟩
  simp only [Int.toNat_natCast] at K
  have e1 : (40 * (40 * (o : Int) + (a : Int)) + (b : Int)).toNat = 1600 * o + 40 * a + b := by omega
  have e2 : (40 * (40 * (o : Int) + (b : Int)) + (a : Int)).toNat = 1600 * o + 40 * b + a := by omega
  have fin := K _ rfl
  rcases hX with rfl | rfl
  · refine gX3_puts_0_281 hL o a b ?_
    rw [e1, e2]
    exact ⟨by omega, by omega, by omega, by omega, by omega, by omega, fin⟩
  · refine gX3_puts_0_282 hL o a b ?_
    rw [e1, e2]
    exact ⟨by omega, by omega, by omega, by omega, by omega, by omega, fin⟩
theorem gX3_links_0 {w : Wd} {S : Sh} {J : Jm} {Q : Out → Sh → Jm → Prop} (hL : Lay S) (p : Nat)
    (K : V w 2 mX3_links 2 [some (vR 84), some (vR p), some (vI 0), none, none] [] S J Q) :
    V w 2 mX3_links 0 (ent mX3_links [vR 84, vR p]) [] S J Q := by
  show V w 2 mX3_links 0 [some (vR 84), some (vR p), none, none, none] [] S J Q
  refine v_shp (fun hs0 => ?_)
  refine v_iconst dX3_links_0 (in_lit (by decide)) ?_
  refine v_istore_n dX3_links_1 (Nat.le_of_ble_eq_true rfl) ?_
  show V w 2 mX3_links 2 [some (vR 84), some (vR p), some (vI 0), none, none] [] S J Q
  exact K
theorem gX3_links_2 {w : Wd} {S : Sh} {J : Jm} {Q : Out → Sh → Jm → Prop} (hL : Lay S) (p : Nat) (k : Nat)
    (K : Br (1600 ≤ ((k : Nat) : Int)) (V w 2 mX3_links 24 [some (vR 84), some (vR p), some (vI 0), none, none] [] S J Q) ((((k : Nat) : Int) < 1600) ∧ (-2147483648 ≤ ((k : Nat) : Int) + 1 ∧ ((k : Nat) : Int) + 1 ≤ 2147483647) ∧ V w 2 mX3_links 2 [some (vR 84), some (vR p), some (vI ((k + 1 : Nat) : Int)), none, none] [] S (up J 285 k 0) Q)) :
    V w 2 mX3_links 2 [some (vR 84), some (vR p), some (vI ((k : Nat) : Int)), none, none] [] S J Q := by
  refine v_shp (fun hs0 => ?_)
  refine v_iload_n dX3_links_2 rfl ?_
  refine v_sipush dX3_links_3 (by decide) (in_lit (by decide)) ?_
  obtain ⟨K1, K2⟩ := K
  refine v_icmp_ge 22 dX3_links_6 (by decide) (fun c1 => ?_) (fun c1 => ?_)
  · have K := K1 c1
    refine v_iconst dX3_links_22 (in_lit (by decide)) ?_
    refine v_istore_n dX3_links_23 (Nat.le_of_ble_eq_true rfl) ?_
    show V w 2 mX3_links 24 [some (vR 84), some (vR p), some (vI 0), none, none] [] S J Q
    exact K
  · have K := K2 c1
    refine v_aload_n dX3_links_9 rfl ?_
    refine v_getR dX3_links_10 frX3_43_3 rfl (L_84 hL).1 (LR_84_11 hL) (Or.inl rfl) ?_
    refine v_iload_n dX3_links_13 rfl ?_
    refine v_iconst dX3_links_14 (in_lit (by decide)) ?_
    obtain ⟨o1, K⟩ := K
    refine st_285 dX3_links_15 hL (by omega) o1 ?_
    show V w 2 mX3_links 16 [some (vR 84), some (vR p), some (vI ((k : Nat) : Int)), none, none] [] S (up J 285 k 0) Q
    obtain ⟨o2, K⟩ := K
    refine v_iinc dX3_links_16 rfl o2 ?_
    show V w 2 mX3_links 19 [some (vR 84), some (vR p), some (vI ((k + 1 : Nat) : Int)), none, none] [] S (up J 285 k 0) Q
    refine v_goto 2 dX3_links_19 (by decide) ?_
    exact K
theorem gX3_links_24 {w : Wd} {S : Sh} {J : Jm} {Q : Out → Sh → Jm → Prop} (hL : Lay S) (p : Nat) (a : Nat)
    (K : Br (J 84 4 ≤ ((a : Nat) : Int)) (V w 2 mX3_links 149 [some (vR 84), some (vR p), some (vI 0), none, none] [] S J Q) ((-2147483648 ≤ ((a : Nat) : Int) + 1 ∧ ((a : Nat) : Int) + 1 ≤ 2147483647) ∧ V w 2 mX3_links 36 [some (vR 84), some (vR p), some (vI ((a : Nat) : Int)), some (vI ((a + 1 : Nat) : Int)), none] [] S J Q)) :
    V w 2 mX3_links 24 [some (vR 84), some (vR p), some (vI ((a : Nat) : Int)), none, none] [] S J Q := by
  refine v_shp (fun hs0 => ?_)
  refine v_iload_n dX3_links_24 rfl ?_
  refine v_aload_n dX3_links_25 rfl ?_
  refine v_getI dX3_links_26 frX3_90_3 rfl rfl (L_84 hL).1 ?_
  obtain ⟨K1, K2⟩ := K
  refine v_icmp_ge 147 dX3_links_29 (by decide) (fun c1 => ?_) (fun c1 => ?_)
  · have K := K1 c1
    refine v_iconst dX3_links_147 (in_lit (by decide)) ?_
    refine v_istore_n dX3_links_148 (Nat.le_of_ble_eq_true rfl) ?_
    show V w 2 mX3_links 149 [some (vR 84), some (vR p), some (vI 0), none, none] [] S J Q
    exact K
  · have K := K2 c1
    refine v_iload_n dX3_links_32 rfl ?_
    refine v_iconst dX3_links_33 (in_lit (by decide)) ?_
    obtain ⟨o1, K⟩ := K
    refine v_iadd dX3_links_34 o1 ?_
    show V w 2 mX3_links 35 [some (vR 84), some (vR p), some (vI ((a : Nat) : Int)), none, none] [vI ((a + 1 : Nat) : Int)] S J Q
    refine v_istore_n dX3_links_35 (Nat.le_of_ble_eq_true rfl) ?_
    show V w 2 mX3_links 36 [some (vR 84), some (vR p), some (vI ((a : Nat) : Int)), some (vI ((a + 1 : Nat) : Int)), none] [] S J Q
    exact K
theorem gX3_links_36 {w : Wd} {S : Sh} {J : Jm} {Q : Out → Sh → Jm → Prop} (hL : Lay S) (p : Nat) (a : Nat) (b : Nat)
    (K : Br (J 84 4 ≤ ((b : Nat) : Int)) ((-2147483648 ≤ ((a : Nat) : Int) + 1 ∧ ((a : Nat) : Int) + 1 ≤ 2147483647) ∧ V w 2 mX3_links 24 [some (vR 84), some (vR p), some (vI ((a + 1 : Nat) : Int)), none, none] [] S J Q) ((0 ≤ ((a : Nat) : Int) ∧ ((a : Nat) : Int) < 192) ∧ (0 ≤ ((b : Nat) : Int) ∧ ((b : Nat) : Int) < 192) ∧ (0 ≤ J 280 (((a : Nat) : Int)).toNat ∧ J 280 (((a : Nat) : Int)).toNat ≤ 6) ∧ (0 ≤ J 280 (((b : Nat) : Int)).toNat ∧ J 280 (((b : Nat) : Int)).toNat ≤ 6) ∧ Br ((0 : Int) ≤ (ulx (xrow J (((a : Nat) : Int)).toNat) (xrow J (((b : Nat) : Int)).toNat)) ∧ (ulx (xrow J (((a : Nat) : Int)).toNat) (xrow J (((b : Nat) : Int)).toNat)) ≤ (5 : Int)) ((((a : Nat) : Int) < 192) ∧ (Sh.tg S p = 15) ∧ (0 ≤ (J 280 a) ∧ (J 280 a) ≤ 6) ∧ (-1 ≤ J p 1 ∧ J p 1 ≤ 7) ∧ Br (ulx (xrow J (((a : Nat) : Int)).toNat) (xrow J (((b : Nat) : Int)).toNat) = plI (J 280 a) (J p 2) (J p 1)) ((0 ≤ ulx (xrow J (((a : Nat) : Int)).toNat) (xrow J (((b : Nat) : Int)).toNat)) ∧ (ulx (xrow J (((a : Nat) : Int)).toNat) (xrow J (((b : Nat) : Int)).toNat) < 6) ∧ (((b : Nat) : Int) < 192) ∧ (-2147483648 ≤ 40 * (zmin (J (88 + a) (ulx (xrow J (((a : Nat) : Int)).toNat) (xrow J (((b : Nat) : Int)).toNat)).toNat) (J (88 + b) (ulx (xrow J (((a : Nat) : Int)).toNat) (xrow J (((b : Nat) : Int)).toNat)).toNat)) ∧ 40 * (zmin (J (88 + a) (ulx (xrow J (((a : Nat) : Int)).toNat) (xrow J (((b : Nat) : Int)).toNat)).toNat) (J (88 + b) (ulx (xrow J (((a : Nat) : Int)).toNat) (xrow J (((b : Nat) : Int)).toNat)).toNat)) ≤ 2147483647) ∧ (-2147483648 ≤ (40 * (zmin (J (88 + a) (ulx (xrow J (((a : Nat) : Int)).toNat) (xrow J (((b : Nat) : Int)).toNat)).toNat) (J (88 + b) (ulx (xrow J (((a : Nat) : Int)).toNat) (xrow J (((b : Nat) : Int)).toNat)).toNat))) + (zmax (J (88 + a) (ulx (xrow J (((a : Nat) : Int)).toNat) (xrow J (((b : Nat) : Int)).toNat)).toNat) (J (88 + b) (ulx (xrow J (((a : Nat) : Int)).toNat) (xrow J (((b : Nat) : Int)).toNat)).toNat)) ∧ (40 * (zmin (J (88 + a) (ulx (xrow J (((a : Nat) : Int)).toNat) (xrow J (((b : Nat) : Int)).toNat)).toNat) (J (88 + b) (ulx (xrow J (((a : Nat) : Int)).toNat) (xrow J (((b : Nat) : Int)).toNat)).toNat))) + (zmax (J (88 + a) (ulx (xrow J (((a : Nat) : Int)).toNat) (xrow J (((b : Nat) : Int)).toNat)).toNat) (J (88 + b) (ulx (xrow J (((a : Nat) : Int)).toNat) (xrow J (((b : Nat) : Int)).toNat)).toNat)) ≤ 2147483647) ∧ (0 ≤ (40 * (zmin (J (88 + a) (ulx (xrow J (((a : Nat) : Int)).toNat) (xrow J (((b : Nat) : Int)).toNat)).toNat) (J (88 + b) (ulx (xrow J (((a : Nat) : Int)).toNat) (xrow J (((b : Nat) : Int)).toNat)).toNat))) + (zmax (J (88 + a) (ulx (xrow J (((a : Nat) : Int)).toNat) (xrow J (((b : Nat) : Int)).toNat)).toNat) (J (88 + b) (ulx (xrow J (((a : Nat) : Int)).toNat) (xrow J (((b : Nat) : Int)).toNat)).toNat))) ∧ ((40 * (zmin (J (88 + a) (ulx (xrow J (((a : Nat) : Int)).toNat) (xrow J (((b : Nat) : Int)).toNat)).toNat) (J (88 + b) (ulx (xrow J (((a : Nat) : Int)).toNat) (xrow J (((b : Nat) : Int)).toNat)).toNat))) + (zmax (J (88 + a) (ulx (xrow J (((a : Nat) : Int)).toNat) (xrow J (((b : Nat) : Int)).toNat)).toNat) (J (88 + b) (ulx (xrow J (((a : Nat) : Int)).toNat) (xrow J (((b : Nat) : Int)).toNat)).toNat)) < 1600) ∧ (-2147483648 ≤ (J 285 ((40 * (zmin (J (88 + a) (ulx (xrow J (((a : Nat) : Int)).toNat) (xrow J (((b : Nat) : Int)).toNat)).toNat) (J (88 + b) (ulx (xrow J (((a : Nat) : Int)).toNat) (xrow J (((b : Nat) : Int)).toNat)).toNat))) + (zmax (J (88 + a) (ulx (xrow J (((a : Nat) : Int)).toNat) (xrow J (((b : Nat) : Int)).toNat)).toNat) (J (88 + b) (ulx (xrow J (((a : Nat) : Int)).toNat) (xrow J (((b : Nat) : Int)).toNat)).toNat))).toNat) + 1 ∧ (J 285 ((40 * (zmin (J (88 + a) (ulx (xrow J (((a : Nat) : Int)).toNat) (xrow J (((b : Nat) : Int)).toNat)).toNat) (J (88 + b) (ulx (xrow J (((a : Nat) : Int)).toNat) (xrow J (((b : Nat) : Int)).toNat)).toNat))) + (zmax (J (88 + a) (ulx (xrow J (((a : Nat) : Int)).toNat) (xrow J (((b : Nat) : Int)).toNat)).toNat) (J (88 + b) (ulx (xrow J (((a : Nat) : Int)).toNat) (xrow J (((b : Nat) : Int)).toNat)).toNat))).toNat) + 1 ≤ 2147483647) ∧ (-2147483648 ≤ ((b : Nat) : Int) + 1 ∧ ((b : Nat) : Int) + 1 ≤ 2147483647) ∧ V w 2 mX3_links 36 [some (vR 84), some (vR p), some (vI ((a : Nat) : Int)), some (vI ((b + 1 : Nat) : Int)), none] [] S (up J 285 ((40 * (zmin (J (88 + a) (ulx (xrow J (((a : Nat) : Int)).toNat) (xrow J (((b : Nat) : Int)).toNat)).toNat) (J (88 + b) (ulx (xrow J (((a : Nat) : Int)).toNat) (xrow J (((b : Nat) : Int)).toNat)).toNat))) + (zmax (J (88 + a) (ulx (xrow J (((a : Nat) : Int)).toNat) (xrow J (((b : Nat) : Int)).toNat)).toNat) (J (88 + b) (ulx (xrow J (((a : Nat) : Int)).toNat) (xrow J (((b : Nat) : Int)).toNat)).toNat))).toNat ((J 285 ((40 * (zmin (J (88 + a) (ulx (xrow J (((a : Nat) : Int)).toNat) (xrow J (((b : Nat) : Int)).toNat)).toNat) (J (88 + b) (ulx (xrow J (((a : Nat) : Int)).toNat) (xrow J (((b : Nat) : Int)).toNat)).toNat))) + (zmax (J (88 + a) (ulx (xrow J (((a : Nat) : Int)).toNat) (xrow J (((b : Nat) : Int)).toNat)).toNat) (J (88 + b) (ulx (xrow J (((a : Nat) : Int)).toNat) (xrow J (((b : Nat) : Int)).toNat)).toNat))).toNat) + 1)) Q) ((-2147483648 ≤ ((b : Nat) : Int) + 1 ∧ ((b : Nat) : Int) + 1 ≤ 2147483647) ∧ V w 2 mX3_links 36 [some (vR 84), some (vR p), some (vI ((a : Nat) : Int)), some (vI ((b + 1 : Nat) : Int)), none] [] S J Q)) ((-2147483648 ≤ ((b : Nat) : Int) + 1 ∧ ((b : Nat) : Int) + 1 ≤ 2147483647) ∧ V w 2 mX3_links 36 [some (vR 84), some (vR p), some (vI ((a : Nat) : Int)), some (vI ((b + 1 : Nat) : Int)), none] [] S J Q))) :
    V w 2 mX3_links 36 [some (vR 84), some (vR p), some (vI ((a : Nat) : Int)), some (vI ((b : Nat) : Int)), none] [] S J Q := by
  refine v_shp (fun hs0 => ?_)
  refine v_iload_n dX3_links_36 rfl ?_
  refine v_aload_n dX3_links_37 rfl ?_
  refine v_getI dX3_links_38 frX3_90_3 rfl rfl (L_84 hL).1 ?_
  obtain ⟨K1, K2⟩ := K
  refine v_icmp_ge 141 dX3_links_41 (by decide) (fun c1 => ?_) (fun c1 => ?_)
  · have K := K1 c1
    obtain ⟨o1, K⟩ := K
    refine v_iinc dX3_links_141 rfl o1 ?_
    show V w 2 mX3_links 144 [some (vR 84), some (vR p), some (vI ((a + 1 : Nat) : Int)), some (vI ((b : Nat) : Int)), none] [] S J Q
    refine v_goto 24 dX3_links_144 (by decide) ?_
    exact v_forget (fg_some (fg_some (fg_some (fg_none (fg_none fg_nil))))) K
  · have K := K2 c1
    refine v_aload_n dX3_links_44 rfl ?_
    refine v_iload_n dX3_links_45 rfl ?_
    refine v_iload_n dX3_links_46 rfl ?_
    refine v_callV (d' := 0) (rest := []) [vI ((a : Nat) : Int), vI ((b : Nat) : Int)] dX3_links_47 vrX3_146_3 (L_84 hL).1 rfl rfl (one_I (one_I one_nil)) (Nat.le_of_ble_eq_true rfl) (Nat.le_of_ble_eq_true rfl) (Nat.le_of_ble_eq_true rfl) ?_
    obtain ⟨o2, K⟩ := K
    obtain ⟨o3, K⟩ := K
    obtain ⟨o4, K⟩ := K
    obtain ⟨o5, K⟩ := K
    refine s_ulX hL ((a : Nat) : Int) ((b : Nat) : Int) o2 o3 o4 o5 ?_
    show V w 2 mX3_links 50 [some (vR 84), some (vR p), some (vI ((a : Nat) : Int)), some (vI ((b : Nat) : Int)), none] [vI (ulx (xrow J (((a : Nat) : Int)).toNat) (xrow J (((b : Nat) : Int)).toNat))] S J Q
    refine v_istore dX3_links_50 (Nat.le_of_ble_eq_true rfl) ?_
    show V w 2 mX3_links 52 [some (vR 84), some (vR p), some (vI ((a : Nat) : Int)), some (vI ((b : Nat) : Int)), some (vI (ulx (xrow J (((a : Nat) : Int)).toNat) (xrow J (((b : Nat) : Int)).toNat)))] [] S J Q
    refine v_iload dX3_links_52 rfl ?_
    refine v_iconst dX3_links_54 (in_lit (by decide)) ?_
    refine v_iconst dX3_links_55 (in_lit (by decide)) ?_
    refine v_callS (d' := 0) (rest := []) [vI (ulx (xrow J (((a : Nat) : Int)).toNat) (xrow J (((b : Nat) : Int)).toNat)), vI 0, vI 5] dX3_links_56 srX3_149 rfl (one_I (one_I (one_I one_nil))) (Nat.le_of_ble_eq_true rfl) (Nat.le_of_ble_eq_true rfl) (Nat.le_of_ble_eq_true rfl) ?_
    obtain ⟨K1, K2⟩ := K
    refine sX1_in hL (ulx (xrow J (((a : Nat) : Int)).toNat) (xrow J (((b : Nat) : Int)).toNat)) (0 : Int) (5 : Int)  (fun c2 => ?_) (fun c2 => ?_)
    · have K := K1 c2
      show V w 2 mX3_links 59 [some (vR 84), some (vR p), some (vI ((a : Nat) : Int)), some (vI ((b : Nat) : Int)), some (vI (ulx (xrow J (((a : Nat) : Int)).toNat) (xrow J (((b : Nat) : Int)).toNat)))] [vI 1] S J Q
      refine v_if_eq 135 dX3_links_59 (by decide) (fun cQ => absurd cQ (by decide)) (fun _ => ?_)
      refine v_iload dX3_links_62 rfl ?_
      refine v_aload_n dX3_links_64 rfl ?_
      refine v_aload_n dX3_links_65 rfl ?_
      refine v_getR dX3_links_66 frX3_27_3 rfl (L_84 hL).1 (LR_84_3 hL) (Or.inl rfl) ?_
      refine v_iload_n dX3_links_69 rfl ?_
      obtain ⟨o6, K⟩ := K
      refine ld_280 dX3_links_70 hL (by omega) o6 ?_
      show V w 2 mX3_links 71 [some (vR 84), some (vR p), some (vI ((a : Nat) : Int)), some (vI ((b : Nat) : Int)), some (vI (ulx (xrow J (((a : Nat) : Int)).toNat) (xrow J (((b : Nat) : Int)).toNat)))] [vI (J 280 a), vR p, vI (ulx (xrow J (((a : Nat) : Int)).toNat) (xrow J (((b : Nat) : Int)).toNat))] S J Q
      obtain ⟨o7, K⟩ := K
      refine v_callV (d' := 0) (rest := [vI (ulx (xrow J (((a : Nat) : Int)).toNat) (xrow J (((b : Nat) : Int)).toNat))]) [vI (J 280 a)] dX3_links_71 vrX3_153_15 o7 rfl rfl (one_I one_nil) (Nat.le_of_ble_eq_true rfl) (Nat.le_of_ble_eq_true rfl) (Nat.le_of_ble_eq_true rfl) ?_
      obtain ⟨o8, K⟩ := K
      obtain ⟨o9, K⟩ := K
      refine s_placeIn hL p (J 280 a) o7 o8 o9 ?_
      show V w 2 mX3_links 74 [some (vR 84), some (vR p), some (vI ((a : Nat) : Int)), some (vI ((b : Nat) : Int)), some (vI (ulx (xrow J (((a : Nat) : Int)).toNat) (xrow J (((b : Nat) : Int)).toNat)))] [vI (plI (J 280 a) (J p 2) (J p 1)), vI (ulx (xrow J (((a : Nat) : Int)).toNat) (xrow J (((b : Nat) : Int)).toNat))] S J Q
      obtain ⟨K1, K2⟩ := K
      refine v_icmp_eq 80 dX3_links_74 (by decide) (fun c3 => ?_) (fun c3 => ?_)
      · have K := K1 c3
        refine v_aload_n dX3_links_80 rfl ?_
        refine v_getR dX3_links_81 frX3_43_3 rfl (L_84 hL).1 (LR_84_11 hL) (Or.inl rfl) ?_
        refine v_bipush dX3_links_84 (by decide) (in_lit (by decide)) ?_
        refine v_aload_n dX3_links_86 rfl ?_
        refine v_getR dX3_links_87 frX3_24_3 rfl (L_84 hL).1 (LR_84_2 hL) (Or.inl rfl) ?_
        refine v_iload_n dX3_links_90 rfl ?_
        refine v_aald dX3_links_91 (by rw [(L_87 hL).1]; rfl) rfl (by omega) (by rw [(nci (L_87 hL).2)]; exact o6) (hL.2.2.2.1 a (by have := o6; omega)).1 ?_
        have hr10 := (hL.2.2.2.1 a (by have := o6; omega)).2
        show V w 2 mX3_links 92 [some (vR 84), some (vR p), some (vI ((a : Nat) : Int)), some (vI ((b : Nat) : Int)), some (vI (ulx (xrow J (((a : Nat) : Int)).toNat) (xrow J (((b : Nat) : Int)).toNat)))] [vR (88 + a), vI 40, vR 285] S J Q
        refine v_iload dX3_links_92 rfl ?_
        obtain ⟨o11, K⟩ := K
        obtain ⟨o12, K⟩ := K
        refine v_iald dX3_links_94 (by rw [hr10.1]; rfl) o11 (by rw [(nci hr10.2)]; exact o12) ?_
        refine v_aload_n dX3_links_95 rfl ?_
        refine v_getR dX3_links_96 frX3_24_3 rfl (L_84 hL).1 (LR_84_2 hL) (Or.inl rfl) ?_
        refine v_iload_n dX3_links_99 rfl ?_
        obtain ⟨o13, K⟩ := K
        refine v_aald dX3_links_100 (by rw [(L_87 hL).1]; rfl) rfl (by omega) (by rw [(nci (L_87 hL).2)]; exact o13) (hL.2.2.2.1 b (by have := o13; omega)).1 ?_
        have hr14 := (hL.2.2.2.1 b (by have := o13; omega)).2
        show V w 2 mX3_links 101 [some (vR 84), some (vR p), some (vI ((a : Nat) : Int)), some (vI ((b : Nat) : Int)), some (vI (ulx (xrow J (((a : Nat) : Int)).toNat) (xrow J (((b : Nat) : Int)).toNat)))] [vR (88 + b), vI (J (88 + a) (ulx (xrow J (((a : Nat) : Int)).toNat) (xrow J (((b : Nat) : Int)).toNat)).toNat), vI 40, vR 285] S J Q
        refine v_iload dX3_links_101 rfl ?_
        refine v_iald dX3_links_103 (by rw [hr14.1]; rfl) o11 (by rw [(nci hr14.2)]; exact o12) ?_
        refine v_callS (d' := 0) (rest := [vI 40, vR 285]) [vI (J (88 + a) (ulx (xrow J (((a : Nat) : Int)).toNat) (xrow J (((b : Nat) : Int)).toNat)).toNat), vI (J (88 + b) (ulx (xrow J (((a : Nat) : Int)).toNat) (xrow J (((b : Nat) : Int)).toNat)).toNat)] dX3_links_104 srX3_137 rfl (one_I (one_I one_nil)) (Nat.le_of_ble_eq_true rfl) (Nat.le_of_ble_eq_true rfl) (Nat.le_of_ble_eq_true rfl) ?_
        refine s_min hL (J (88 + a) (ulx (xrow J (((a : Nat) : Int)).toNat) (xrow J (((b : Nat) : Int)).toNat)).toNat) (J (88 + b) (ulx (xrow J (((a : Nat) : Int)).toNat) (xrow J (((b : Nat) : Int)).toNat)).toNat)  ?_
        show V w 2 mX3_links 107 [some (vR 84), some (vR p), some (vI ((a : Nat) : Int)), some (vI ((b : Nat) : Int)), some (vI (ulx (xrow J (((a : Nat) : Int)).toNat) (xrow J (((b : Nat) : Int)).toNat)))] [vI (zmin (J (88 + a) (ulx (xrow J (((a : Nat) : Int)).toNat) (xrow J (((b : Nat) : Int)).toNat)).toNat) (J (88 + b) (ulx (xrow J (((a : Nat) : Int)).toNat) (xrow J (((b : Nat) : Int)).toNat)).toNat)), vI 40, vR 285] S J Q
        obtain ⟨o15, K⟩ := K
        refine v_imul dX3_links_107 o15 ?_
        refine v_aload_n dX3_links_108 rfl ?_
        refine v_getR dX3_links_109 frX3_24_3 rfl (L_84 hL).1 (LR_84_2 hL) (Or.inl rfl) ?_
        refine v_iload_n dX3_links_112 rfl ?_
        refine v_aald dX3_links_113 (by rw [(L_87 hL).1]; rfl) rfl (by omega) (by rw [(nci (L_87 hL).2)]; exact o6) (hL.2.2.2.1 a (by have := o6; omega)).1 ?_
        have hr16 := (hL.2.2.2.1 a (by have := o6; omega)).2
        show V w 2 mX3_links 114 [some (vR 84), some (vR p), some (vI ((a : Nat) : Int)), some (vI ((b : Nat) : Int)), some (vI (ulx (xrow J (((a : Nat) : Int)).toNat) (xrow J (((b : Nat) : Int)).toNat)))] [vR (88 + a), vI (40 * (zmin (J (88 + a) (ulx (xrow J (((a : Nat) : Int)).toNat) (xrow J (((b : Nat) : Int)).toNat)).toNat) (J (88 + b) (ulx (xrow J (((a : Nat) : Int)).toNat) (xrow J (((b : Nat) : Int)).toNat)).toNat))), vR 285] S J Q
        refine v_iload dX3_links_114 rfl ?_
        refine v_iald dX3_links_116 (by rw [hr16.1]; rfl) o11 (by rw [(nci hr16.2)]; exact o12) ?_
        refine v_aload_n dX3_links_117 rfl ?_
        refine v_getR dX3_links_118 frX3_24_3 rfl (L_84 hL).1 (LR_84_2 hL) (Or.inl rfl) ?_
        refine v_iload_n dX3_links_121 rfl ?_
        refine v_aald dX3_links_122 (by rw [(L_87 hL).1]; rfl) rfl (by omega) (by rw [(nci (L_87 hL).2)]; exact o13) (hL.2.2.2.1 b (by have := o13; omega)).1 ?_
        have hr17 := (hL.2.2.2.1 b (by have := o13; omega)).2
        show V w 2 mX3_links 123 [some (vR 84), some (vR p), some (vI ((a : Nat) : Int)), some (vI ((b : Nat) : Int)), some (vI (ulx (xrow J (((a : Nat) : Int)).toNat) (xrow J (((b : Nat) : Int)).toNat)))] [vR (88 + b), vI (J (88 + a) (ulx (xrow J (((a : Nat) : Int)).toNat) (xrow J (((b : Nat) : Int)).toNat)).toNat), vI (40 * (zmin (J (88 + a) (ulx (xrow J (((a : Nat) : Int)).toNat) (xrow J (((b : Nat) : Int)).toNat)).toNat) (J (88 + b) (ulx (xrow J (((a : Nat) : Int)).toNat) (xrow J (((b : Nat) : Int)).toNat)).toNat))), vR 285] S J Q
        refine v_iload dX3_links_123 rfl ?_
        refine v_iald dX3_links_125 (by rw [hr17.1]; rfl) o11 (by rw [(nci hr17.2)]; exact o12) ?_
        refine v_callS (d' := 0) (rest := [vI (40 * (zmin (J (88 + a) (ulx (xrow J (((a : Nat) : Int)).toNat) (xrow J (((b : Nat) : Int)).toNat)).toNat) (J (88 + b) (ulx (xrow J (((a : Nat) : Int)).toNat) (xrow J (((b : Nat) : Int)).toNat)).toNat))), vR 285]) [vI (J (88 + a) (ulx (xrow J (((a : Nat) : Int)).toNat) (xrow J (((b : Nat) : Int)).toNat)).toNat), vI (J (88 + b) (ulx (xrow J (((a : Nat) : Int)).toNat) (xrow J (((b : Nat) : Int)).toNat)).toNat)] dX3_links_126 srX3_143 rfl (one_I (one_I one_nil)) (Nat.le_of_ble_eq_true rfl) (Nat.le_of_ble_eq_true rfl) (Nat.le_of_ble_eq_true rfl) ?_
        refine s_max hL (J (88 + a) (ulx (xrow J (((a : Nat) : Int)).toNat) (xrow J (((b : Nat) : Int)).toNat)).toNat) (J (88 + b) (ulx (xrow J (((a : Nat) : Int)).toNat) (xrow J (((b : Nat) : Int)).toNat)).toNat)  ?_
        show V w 2 mX3_links 129 [some (vR 84), some (vR p), some (vI ((a : Nat) : Int)), some (vI ((b : Nat) : Int)), some (vI (ulx (xrow J (((a : Nat) : Int)).toNat) (xrow J (((b : Nat) : Int)).toNat)))] [vI (zmax (J (88 + a) (ulx (xrow J (((a : Nat) : Int)).toNat) (xrow J (((b : Nat) : Int)).toNat)).toNat) (J (88 + b) (ulx (xrow J (((a : Nat) : Int)).toNat) (xrow J (((b : Nat) : Int)).toNat)).toNat)), vI (40 * (zmin (J (88 + a) (ulx (xrow J (((a : Nat) : Int)).toNat) (xrow J (((b : Nat) : Int)).toNat)).toNat) (J (88 + b) (ulx (xrow J (((a : Nat) : Int)).toNat) (xrow J (((b : Nat) : Int)).toNat)).toNat))), vR 285] S J Q
        obtain ⟨o18, K⟩ := K
        refine v_iadd dX3_links_129 o18 ?_
        refine v_dup2 dX3_links_130 trivial trivial ?_
        obtain ⟨o19, K⟩ := K
        obtain ⟨o20, K⟩ := K
        refine ld_285 dX3_links_131 hL o19 o20 ?_
        refine v_iconst dX3_links_132 (in_lit (by decide)) ?_
        obtain ⟨o21, K⟩ := K
        refine v_iadd dX3_links_133 o21 ?_
        refine st_285 dX3_links_134 hL o19 o20 ?_
        show V w 2 mX3_links 135 [some (vR 84), some (vR p), some (vI ((a : Nat) : Int)), some (vI ((b : Nat) : Int)), some (vI (ulx (xrow J (((a : Nat) : Int)).toNat) (xrow J (((b : Nat) : Int)).toNat)))] [] S (up J 285 ((40 * (zmin (J (88 + a) (ulx (xrow J (((a : Nat) : Int)).toNat) (xrow J (((b : Nat) : Int)).toNat)).toNat) (J (88 + b) (ulx (xrow J (((a : Nat) : Int)).toNat) (xrow J (((b : Nat) : Int)).toNat)).toNat))) + (zmax (J (88 + a) (ulx (xrow J (((a : Nat) : Int)).toNat) (xrow J (((b : Nat) : Int)).toNat)).toNat) (J (88 + b) (ulx (xrow J (((a : Nat) : Int)).toNat) (xrow J (((b : Nat) : Int)).toNat)).toNat))).toNat ((J 285 ((40 * (zmin (J (88 + a) (ulx (xrow J (((a : Nat) : Int)).toNat) (xrow J (((b : Nat) : Int)).toNat)).toNat) (J (88 + b) (ulx (xrow J (((a : Nat) : Int)).toNat) (xrow J (((b : Nat) : Int)).toNat)).toNat))) + (zmax (J (88 + a) (ulx (xrow J (((a : Nat) : Int)).toNat) (xrow J (((b : Nat) : Int)).toNat)).toNat) (J (88 + b) (ulx (xrow J (((a : Nat) : Int)).toNat) (xrow J (((b : Nat) : Int)).toNat)).toNat))).toNat) + 1)) Q
        obtain ⟨o22, K⟩ := K
        refine v_iinc dX3_links_135 rfl o22 ?_
        show V w 2 mX3_links 138 [some (vR 84), some (vR p), some (vI ((a : Nat) : Int)), some (vI ((b + 1 : Nat) : Int)), some (vI (ulx (xrow J (((a : Nat) : Int)).toNat) (xrow J (((b : Nat) : Int)).toNat)))] [] S (up J 285 ((40 * (zmin (J (88 + a) (ulx (xrow J (((a : Nat) : Int)).toNat) (xrow J (((b : Nat) : Int)).toNat)).toNat) (J (88 + b) (ulx (xrow J (((a : Nat) : Int)).toNat) (xrow J (((b : Nat) : Int)).toNat)).toNat))) + (zmax (J (88 + a) (ulx (xrow J (((a : Nat) : Int)).toNat) (xrow J (((b : Nat) : Int)).toNat)).toNat) (J (88 + b) (ulx (xrow J (((a : Nat) : Int)).toNat) (xrow J (((b : Nat) : Int)).toNat)).toNat))).toNat ((J 285 ((40 * (zmin (J (88 + a) (ulx (xrow J (((a : Nat) : Int)).toNat) (xrow J (((b : Nat) : Int)).toNat)).toNat) (J (88 + b) (ulx (xrow J (((a : Nat) : Int)).toNat) (xrow J (((b : Nat) : Int)).toNat)).toNat))) + (zmax (J (88 + a) (ulx (xrow J (((a : Nat) : Int)).toNat) (xrow J (((b : Nat) : Int)).toNat)).toNat) (J (88 + b) (ulx (xrow J (((a : Nat) : Int)).toNat) (xrow J (((b : Nat) : Int)).toNat)).toNat))).toNat) + 1)) Q
        refine v_goto 36 dX3_links_138 (by decide) ?_
        exact v_forget (fg_some (fg_some (fg_some (fg_some (fg_none fg_nil))))) K
      · have K := K2 c3
        refine v_goto 135 dX3_links_77 (by decide) ?_
        obtain ⟨o23, K⟩ := K
        refine v_iinc dX3_links_135 rfl o23 ?_
        show V w 2 mX3_links 138 [some (vR 84), some (vR p), some (vI ((a : Nat) : Int)), some (vI ((b + 1 : Nat) : Int)), some (vI (ulx (xrow J (((a : Nat) : Int)).toNat) (xrow J (((b : Nat) : Int)).toNat)))] [] S J Q
        refine v_goto 36 dX3_links_138 (by decide) ?_
        exact v_forget (fg_some (fg_some (fg_some (fg_some (fg_none fg_nil))))) K
    · have K := K2 c2
      show V w 2 mX3_links 59 [some (vR 84), some (vR p), some (vI ((a : Nat) : Int)), some (vI ((b : Nat) : Int)), some (vI (ulx (xrow J (((a : Nat) : Int)).toNat) (xrow J (((b : Nat) : Int)).toNat)))] [vI 0] S J Q
      refine v_if_eq 135 dX3_links_59 (by decide) (fun _ => ?_) (fun cQ => absurd cQ (by decide))
      obtain ⟨o24, K⟩ := K
      refine v_iinc dX3_links_135 rfl o24 ?_
      show V w 2 mX3_links 138 [some (vR 84), some (vR p), some (vI ((a : Nat) : Int)), some (vI ((b + 1 : Nat) : Int)), some (vI (ulx (xrow J (((a : Nat) : Int)).toNat) (xrow J (((b : Nat) : Int)).toNat)))] [] S J Q
      refine v_goto 36 dX3_links_138 (by decide) ?_
      exact v_forget (fg_some (fg_some (fg_some (fg_some (fg_none fg_nil))))) K
theorem gX3_links_149 {w : Wd} {S : Sh} {J : Jm} {Q : Out → Sh → Jm → Prop} (hL : Lay S) (p : Nat) (a : Nat)
    (K : Br (40 ≤ ((a : Nat) : Int)) (Q (.inl none) S J) ((-2147483648 ≤ ((a : Nat) : Int) + 1 ∧ ((a : Nat) : Int) + 1 ≤ 2147483647) ∧ V w 2 mX3_links 159 [some (vR 84), some (vR p), some (vI ((a : Nat) : Int)), some (vI ((a + 1 : Nat) : Int)), none] [] S J Q)) :
    V w 2 mX3_links 149 [some (vR 84), some (vR p), some (vI ((a : Nat) : Int)), none, none] [] S J Q := by
  refine v_shp (fun hs0 => ?_)
  refine v_iload_n dX3_links_149 rfl ?_
  refine v_bipush dX3_links_150 (by decide) (in_lit (by decide)) ?_
  obtain ⟨K1, K2⟩ := K
  refine v_icmp_ge 209 dX3_links_152 (by decide) (fun c1 => ?_) (fun c1 => ?_)
  · have K := K1 c1
    exact v_vret dX3_links_209 rfl K
  · have K := K2 c1
    refine v_iload_n dX3_links_155 rfl ?_
    refine v_iconst dX3_links_156 (in_lit (by decide)) ?_
    obtain ⟨o1, K⟩ := K
    refine v_iadd dX3_links_157 o1 ?_
    show V w 2 mX3_links 158 [some (vR 84), some (vR p), some (vI ((a : Nat) : Int)), none, none] [vI ((a + 1 : Nat) : Int)] S J Q
    refine v_istore_n dX3_links_158 (Nat.le_of_ble_eq_true rfl) ?_
    show V w 2 mX3_links 159 [some (vR 84), some (vR p), some (vI ((a : Nat) : Int)), some (vI ((a + 1 : Nat) : Int)), none] [] S J Q
    exact K
theorem gX3_links_159 {w : Wd} {S : Sh} {J : Jm} {Q : Out → Sh → Jm → Prop} (hL : Lay S) (p : Nat) (a : Nat) (b : Nat)
    (K : Br (40 ≤ ((b : Nat) : Int)) ((-2147483648 ≤ ((a : Nat) : Int) + 1 ∧ ((a : Nat) : Int) + 1 ≤ 2147483647) ∧ V w 2 mX3_links 149 [some (vR 84), some (vR p), some (vI ((a + 1 : Nat) : Int)), none, none] [] S J Q) ((-2147483648 ≤ 40 * ((a : Nat) : Int) ∧ 40 * ((a : Nat) : Int) ≤ 2147483647) ∧ (-2147483648 ≤ ((40 * a : Nat) : Int) + ((b : Nat) : Int) ∧ ((40 * a : Nat) : Int) + ((b : Nat) : Int) ≤ 2147483647) ∧ ((((40 * a) + b : Nat) : Int) < 1600) ∧ (Sh.tg S p = 15) ∧ Br (J 285 ((40 * a) + b) < J p 3) ((-2147483648 ≤ ((b : Nat) : Int) + 1 ∧ ((b : Nat) : Int) + 1 ≤ 2147483647) ∧ V w 2 mX3_links 159 [some (vR 84), some (vR p), some (vI ((a : Nat) : Int)), some (vI ((b + 1 : Nat) : Int)), none] [] S J Q) ((281 = 281 ∨ 281 = 282) ∧ (0 ≤ (J p 0) ∧ (J p 0) < 2) ∧ (0 ≤ ((a : Nat) : Int) ∧ ((a : Nat) : Int) < 40) ∧ (0 ≤ ((b : Nat) : Int) ∧ ((b : Nat) : Int) < 40) ∧ (∀ (J1 : Jm), J1 = up (up J 281 (1600 * ((J p 0)).toNat + 40 * (((a : Nat) : Int)).toNat + (((b : Nat) : Int)).toNat) 1) 281 (1600 * ((J p 0)).toNat + 40 * (((b : Nat) : Int)).toNat + (((a : Nat) : Int)).toNat) 1 → (-2147483648 ≤ ((b : Nat) : Int) + 1 ∧ ((b : Nat) : Int) + 1 ≤ 2147483647) ∧ V w 2 mX3_links 159 [some (vR 84), some (vR p), some (vI ((a : Nat) : Int)), some (vI ((b + 1 : Nat) : Int)), none] [] S J1 Q)))) :
    V w 2 mX3_links 159 [some (vR 84), some (vR p), some (vI ((a : Nat) : Int)), some (vI ((b : Nat) : Int)), none] [] S J Q := by
  refine v_shp (fun hs0 => ?_)
  refine v_iload_n dX3_links_159 rfl ?_
  refine v_bipush dX3_links_160 (by decide) (in_lit (by decide)) ?_
  obtain ⟨K1, K2⟩ := K
  refine v_icmp_ge 203 dX3_links_162 (by decide) (fun c1 => ?_) (fun c1 => ?_)
  · have K := K1 c1
    obtain ⟨o1, K⟩ := K
    refine v_iinc dX3_links_203 rfl o1 ?_
    show V w 2 mX3_links 206 [some (vR 84), some (vR p), some (vI ((a + 1 : Nat) : Int)), some (vI ((b : Nat) : Int)), none] [] S J Q
    refine v_goto 149 dX3_links_206 (by decide) ?_
    exact v_forget (fg_some (fg_some (fg_some (fg_none (fg_none fg_nil))))) K
  · have K := K2 c1
    refine v_aload_n dX3_links_165 rfl ?_
    refine v_getR dX3_links_166 frX3_43_3 rfl (L_84 hL).1 (LR_84_11 hL) (Or.inl rfl) ?_
    refine v_bipush dX3_links_169 (by decide) (in_lit (by decide)) ?_
    refine v_iload_n dX3_links_171 rfl ?_
    obtain ⟨o2, K⟩ := K
    refine v_imul dX3_links_172 o2 ?_
    show V w 2 mX3_links 173 [some (vR 84), some (vR p), some (vI ((a : Nat) : Int)), some (vI ((b : Nat) : Int)), none] [vI ((40 * a : Nat) : Int), vR 285] S J Q
    refine v_iload_n dX3_links_173 rfl ?_
    obtain ⟨o3, K⟩ := K
    refine v_iadd dX3_links_174 o3 ?_
    show V w 2 mX3_links 175 [some (vR 84), some (vR p), some (vI ((a : Nat) : Int)), some (vI ((b : Nat) : Int)), none] [vI (((40 * a) + b : Nat) : Int), vR 285] S J Q
    obtain ⟨o4, K⟩ := K
    refine ld_285 dX3_links_175 hL (by omega) o4 ?_
    show V w 2 mX3_links 176 [some (vR 84), some (vR p), some (vI ((a : Nat) : Int)), some (vI ((b : Nat) : Int)), none] [vI (J 285 ((40 * a) + b))] S J Q
    refine v_aload_n dX3_links_176 rfl ?_
    obtain ⟨o5, K⟩ := K
    refine v_getI dX3_links_177 frX3_163_15 rfl rfl o5 ?_
    obtain ⟨K1, K2⟩ := K
    refine v_icmp_lt 197 dX3_links_180 (by decide) (fun c2 => ?_) (fun c2 => ?_)
    · have K := K1 c2
      obtain ⟨o6, K⟩ := K
      refine v_iinc dX3_links_197 rfl o6 ?_
      show V w 2 mX3_links 200 [some (vR 84), some (vR p), some (vI ((a : Nat) : Int)), some (vI ((b + 1 : Nat) : Int)), none] [] S J Q
      refine v_goto 159 dX3_links_200 (by decide) ?_
      exact K
    · have K := K2 c2
      refine v_aload_n dX3_links_183 rfl ?_
      refine v_aload_n dX3_links_184 rfl ?_
      refine v_getR dX3_links_185 frX3_30_3 rfl (L_84 hL).1 (LR_84_7 hL) (Or.inl rfl) ?_
      refine v_aload_n dX3_links_188 rfl ?_
      refine v_getI dX3_links_189 frX3_166_15 rfl rfl o5 ?_
      refine v_iload_n dX3_links_192 rfl ?_
      refine v_iload_n dX3_links_193 rfl ?_
      refine v_callV (d' := 1) (rest := []) [vR 281, vI (J p 0), vI ((a : Nat) : Int), vI ((b : Nat) : Int)] dX3_links_194 vrX3_169_3 (L_84 hL).1 rfl rfl (one_O (one_I (one_I (one_I one_nil)))) (Nat.le_of_ble_eq_true rfl) (Nat.le_of_ble_eq_true rfl) (Nat.le_of_ble_eq_true rfl) ?_
      obtain ⟨o7, K⟩ := K
      obtain ⟨o8, K⟩ := K
      obtain ⟨o9, K⟩ := K
      obtain ⟨o10, K⟩ := K
      refine s_putsX hL 281 (J p 0) ((a : Nat) : Int) ((b : Nat) : Int) o7 o8 o9 o10 (fun J1 hp => ?_)
      have K := K J1 hp
      show V w 2 mX3_links 197 [some (vR 84), some (vR p), some (vI ((a : Nat) : Int)), some (vI ((b : Nat) : Int)), none] [] S J1 Q
      obtain ⟨o11, K⟩ := K
      refine v_iinc dX3_links_197 rfl o11 ?_
      show V w 2 mX3_links 200 [some (vR 84), some (vR p), some (vI ((a : Nat) : Int)), some (vI ((b + 1 : Nat) : Int)), none] [] S J1 Q
      refine v_goto 159 dX3_links_200 (by decide) ?_
      exact K

theorem idx3 {o u v o' u' v' : Nat} (hu : u < 40) (hv : v < 40) (hu' : u' < 40) (hv' : v' < 40) (e : 1600 * o + 40 * u + v = 1600 * o' + 40 * u' + v') : o = o' ∧ u = u' ∧ v = v' := by omega
theorem s_xlinks {w : Wd} {S : Sh} {J : Jm} {Q : Out → Sh → Jm → Prop} (hL : Lay S) (p c : Nat) (L : List (List Int)) (σ : Jm) (hp : 365 ≤ p) (ht : S.tg p = 15) (j0 : J p 0 = σ 321 c) (j1 : J p 1 = whX (σ 322 c)) (j2 : J p 2 = σ 323 c) (j3 : J p 3 = σ 324 c) (hso : 0 ≤ σ 321 c ∧ σ 321 c < 2) (hw : 0 ≤ σ 322 c ∧ σ 322 c ≤ 7) (hm : 1 ≤ σ 324 c) (hW : PWx J L) (hlen : L.length ≤ 192) (hE : ∀ a, a < L.length → ∀ i, i < (L.getD a []).length → 0 ≤ (L.getD a []).getD i 0 ∧ (L.getD a []).getD i 0 < 40)
    (K : ∀ J', (∀ x k, x ≠ 281 → x ≠ 285 → J' x k = J x k) → (∀ o u v : Nat, o < 2 → u < 40 → v < 40 → J' 281 (1600 * o + 40 * u + v) = if (o : Int) = σ 321 c ∧ σ 324 c ≤ (cntP u v (tpOf σ c L) : Nat) then 1 else J 281 (1600 * o + 40 * u + v)) → Q (.inl none) S J') : V w 2 mX3_links 0 (ent mX3_links [vR 84, vR p]) [] S J Q := by
  obtain ⟨N, hN⟩ : ∃ N : Nat, L.length = N := ⟨_, rfl⟩
  rw [hN] at hlen hE
  have hwn : J 84 4 = N := by rw [hW.1, hN]
  have hwx : -1 ≤ whX (σ 322 c) ∧ whX (σ 322 c) ≤ 7 := by unfold whX; split <;> omega
  obtain ⟨o0, eo⟩ : ∃ m : Nat, σ 321 c = m := ⟨(σ 321 c).toNat, by omega⟩
  -- behind the counting
  have last : ∀ J1 : Jm, (∀ x k, x ≠ 285 → J1 x k = J x k) → (∀ u v : Nat, u < v → v < 40 → J1 285 (40 * u + v) = (cntP u v (tpOf σ c L) : Nat)) → V w 2 mX3_links 149 [some (vR 84), some (vR p), some (vI ((0 : Nat) : Int)), none, none] [] S J1 Q := by
    intro J1 f1 h1
    have done : ∀ (a b : Nat) (J2 : Jm), (∀ o u v : Nat, o < 2 → u < 40 → v < 40 → J2 281 (1600 * o + 40 * u + v) = if (o : Int) = σ 321 c ∧ σ 324 c ≤ (cntP u v (tpOf σ c L) : Nat) ∧ (min u v < a ∨ (min u v = a ∧ max u v < b)) then 1 else J 281 (1600 * o + 40 * u + v)) → ∀ (a' b' : Nat), (∀ u v : Nat, u < 40 → v < 40 → u ≠ v → ((min u v < a ∨ (min u v = a ∧ max u v < b)) ↔ (min u v < a' ∨ (min u v = a' ∧ max u v < b')))) → (∀ o u v : Nat, o < 2 → u < 40 → v < 40 → J2 281 (1600 * o + 40 * u + v) = if (o : Int) = σ 321 c ∧ σ 324 c ≤ (cntP u v (tpOf σ c L) : Nat) ∧ (min u v < a' ∨ (min u v = a' ∧ max u v < b')) then 1 else J 281 (1600 * o + 40 * u + v)) := by
      intro a b J2 h2 a' b' hab o u v ho hu hv
      rw [h2 o u v ho hu hv]
      by_cases e : u = v
      · subst e
        rw [cntP_self, if_neg (fun q => by omega), if_neg (fun q => by omega)]
      · have := hab u v hu hv e
        by_cases q : (o : Int) = σ 321 c ∧ σ 324 c ≤ (cntP u v (tpOf σ c L) : Nat) ∧ (min u v < a ∨ (min u v = a ∧ max u v < b))
        · rw [if_pos q, if_pos ⟨q.1, q.2.1, this.mp q.2.2⟩]
        · rw [if_neg q, if_neg (fun z => q ⟨z.1, z.2.1, this.mpr z.2.2⟩)]
    refine up_loop (P := fun a J2 => (∀ x k, x ≠ 281 → J2 x k = J1 x k) ∧ ∀ o u v : Nat, o < 2 → u < 40 → v < 40 → J2 281 (1600 * o + 40 * u + v) = if (o : Int) = σ 321 c ∧ σ 324 c ≤ (cntP u v (tpOf σ c L) : Nat) ∧ (min u v < a ∨ (min u v = a ∧ max u v < 0)) then 1 else J 281 (1600 * o + 40 * u + v)) 40
      (fun a J2 => V w 2 mX3_links 149 [some (vR 84), some (vR p), some (vI (a : Int)), none, none] [] S J2 Q) ?_ ?_ 0 J1 (by omega) ⟨fun _ _ _ => rfl, fun o u v ho hu hv => by rw [if_neg (fun q => by omega)]; exact f1 _ _ (by decide)⟩
    · intro a J2 ha ⟨f2, h2⟩ ih
      refine gX3_links_149 (J := J2) hL p a (br_n (by omega) ⟨by omega, ?_⟩)
      have go := up_loop (P := fun m J3 => (∀ x k, x ≠ 281 → J3 x k = J1 x k) ∧ ∀ o u v : Nat, o < 2 → u < 40 → v < 40 → J3 281 (1600 * o + 40 * u + v) = if (o : Int) = σ 321 c ∧ σ 324 c ≤ (cntP u v (tpOf σ c L) : Nat) ∧ (min u v < a ∨ (min u v = a ∧ max u v < a + 1 + m)) then 1 else J 281 (1600 * o + 40 * u + v)) (39 - a)
        (fun m J3 => V w 2 mX3_links 159 [some (vR 84), some (vR p), some (vI (a : Int)), some (vI ((a + 1 + m : Nat) : Int)), none] [] S J3 Q) (by
          intro m J3 hm3 ⟨f3, h3⟩ ih3
          have e285 : J3 285 (40 * a + (a + 1 + m)) = (cntP (a : Nat) ((a + 1 + m : Nat) : Int) (tpOf σ c L) : Nat) := by rw [f3 _ _ (by decide)]; exact h1 a (a + 1 + m) (by omega) (by omega)
          have ep : ∀ k, J3 p k = J p k := fun k => by rw [f3 _ _ (by omega), f1 _ _ (by omega)]
          refine gX3_links_159 (J := J3) hL p a (a + 1 + m) (br_n (by omega) ?_)
          rw [e285, ep, ep, j3, j0]
          (repeat' (first | ((with_reducible refine And.intro ?_ ?_); omega)))
          refine br_i (fun c1 => ?_) (fun c1 => ?_)
          · (repeat' (first | ((with_reducible refine And.intro ?_ ?_); omega)))
            refine ih3 J3 ⟨f3, fun o u v ho hu hv => ?_⟩
            rw [h3 o u v ho hu hv]
            by_cases q : (o : Int) = σ 321 c ∧ σ 324 c ≤ (cntP u v (tpOf σ c L) : Nat) ∧ (min u v < a ∨ (min u v = a ∧ max u v < a + 1 + m))
            · rw [if_pos q, if_pos ⟨q.1, q.2.1, by omega⟩]
            · rw [if_neg q, if_neg (fun z => ?_)]
              by_cases e : min u v = a ∧ max u v = a + 1 + m
              · have z2 := z.2.1
                rcases Nat.lt_or_ge u v with e2 | e2
                · rw [show u = a by omega, show v = a + 1 + m by omega] at z2
                  omega
                · rw [cntP_comm, show v = a by omega, show u = a + 1 + m by omega] at z2
                  omega
              · exact q ⟨z.1, z.2.1, by omega⟩
          · (repeat' (first | ((with_reducible refine And.intro ?_ ?_); omega)))
            intro J4 e4
            rw [Int.toNat_natCast, Int.toNat_natCast, eo, Int.toNat_natCast] at e4
            (repeat' (first | ((with_reducible refine And.intro ?_ ?_); omega)))
            refine ih3 J4 ⟨fun x k q => by rw [e4, up_na q, up_na q, f3 x k q], fun o u v ho hu hv => ?_⟩
            rw [e4]
            by_cases q1 : o = o0 ∧ u = a + 1 + m ∧ v = a
            · obtain ⟨rfl, rfl, rfl⟩ := q1
              have hq : σ 324 c ≤ (cntP ((v + 1 + m : Nat) : Int) (v : Int) (tpOf σ c L) : Nat) := by rw [cntP_comm]; omega
              rw [up_self, if_pos ⟨by omega, hq, by omega⟩]
            · rw [up_nk (fun e => q1 (idx3 hu hv (by omega) (by omega) e))]
              by_cases q2 : o = o0 ∧ u = a ∧ v = a + 1 + m
              · obtain ⟨rfl, rfl, rfl⟩ := q2
                have hq : σ 324 c ≤ (cntP (u : Int) ((u + 1 + m : Nat) : Int) (tpOf σ c L) : Nat) := by omega
                rw [up_self, if_pos ⟨by omega, hq, by omega⟩]
              · rw [up_nk (fun e => q2 (idx3 hu hv (by omega) (by omega) e)), h3 o u v ho hu hv]
                by_cases q : (o : Int) = σ 321 c ∧ σ 324 c ≤ (cntP u v (tpOf σ c L) : Nat) ∧ (min u v < a ∨ (min u v = a ∧ max u v < a + 1 + m))
                · rw [if_pos q, if_pos ⟨q.1, q.2.1, by omega⟩]
                · rw [if_neg q, if_neg (fun z => q ⟨z.1, z.2.1, by omega⟩)]) (by
          intro J3 ⟨f3, h3⟩
          refine gX3_links_159 (J := J3) hL p a (a + 1 + (39 - a)) (br_y (by omega) ⟨by omega, ?_⟩)
          exact ih J3 ⟨f3, done a (a + 1 + (39 - a)) J3 h3 (a + 1) 0 (fun u v hu hv e => by omega)⟩)
      exact go 0 J2 (by omega) ⟨f2, done a 0 J2 h2 a (a + 1 + 0) (fun u v hu hv e => by omega)⟩
    · intro J2 ⟨f2, h2⟩
      refine gX3_links_149 (J := J2) hL p 40 (br_y (by omega) (K J2 (fun x k q1 q2 => by rw [f2 x k q1, f1 x k q2]) (fun o u v ho hu hv => ?_)))
      rw [h2 o u v ho hu hv]
      by_cases q : (o : Int) = σ 321 c ∧ σ 324 c ≤ (cntP u v (tpOf σ c L) : Nat)
      · rw [if_pos ⟨q.1, q.2, by omega⟩, if_pos q]
      · rw [if_neg (fun z => q ⟨z.1, z.2.1⟩), if_neg q]
  -- the counting
  have hz : ∀ a, a < N → (0 ≤ J 280 a ∧ J 280 a ≤ 6) ∧ xrow J a = L.getD a [] := fun a ha => hW.2 a (by omega)
  have hl6 : ∀ a, a < N → (L.getD a []).length ≤ 6 ∧ ((L.getD a []).length : Int) = J 280 a := fun a ha => by
    rw [← (hz a ha).2, xrow_len]
    have := (hz a ha).1
    omega
  have count : ∀ J1 : Jm, (∀ x k, x ≠ 285 → J1 x k = J x k) → (∀ q, q < 1600 → J1 285 q = 0) → V w 2 mX3_links 24 [some (vR 84), some (vR p), some (vI ((0 : Nat) : Int)), none, none] [] S J1 Q := by
    intro J1 f1 h1
    refine up_loop (P := fun a J2 => (∀ x k, x ≠ 285 → J2 x k = J x k) ∧ ∀ u v : Nat, u < v → v < 40 → J2 285 (40 * u + v) = (cntP u v (tpO σ c (fun a => L.getD a []) N a) : Nat)) N
      (fun a J2 => V w 2 mX3_links 24 [some (vR 84), some (vR p), some (vI (a : Int)), none, none] [] S J2 Q) ?_ ?_ 0 J1 (by omega) ⟨f1, fun u v hu hv => by rw [h1 _ (by omega)]; rfl⟩
    · intro a J2 ha ⟨f2, h2⟩ ih
      have e84 : J2 84 4 = N := by rw [f2 _ _ (by decide)]; exact hwn
      refine gX3_links_24 (J := J2) hL p a (br_n (by omega) ⟨by omega, ?_⟩)
      have go := up_loop (P := fun m J3 => (∀ x k, x ≠ 285 → J3 x k = J x k) ∧ ∀ u v : Nat, u < v → v < 40 → J3 285 (40 * u + v) = (cntP u v (tpO σ c (fun a => L.getD a []) N a ++ tpI σ c (fun a => L.getD a []) a m) : Nat)) (N - (a + 1))
        (fun m J3 => V w 2 mX3_links 36 [some (vR 84), some (vR p), some (vI (a : Int)), some (vI ((a + 1 + m : Nat) : Int)), none] [] S J3 Q) (by
          intro m J3 hm3 ⟨f3, h3⟩ ih3
          have hb : a + 1 + m < N := by omega
          revert h3 ih3
          have ei : tpI σ c (fun a => L.getD a []) a (m + 1) = tpI σ c (fun a => L.getD a []) a m ++ tp1 σ c (fun a => L.getD a []) a (a + 1 + m) := rfl
          rw [ei, show a + 1 + (m + 1) = a + 1 + m + 1 from rfl]
          have hT9 : (tpO σ c (fun a => L.getD a []) N a ++ tpI σ c (fun a => L.getD a []) a m).length ≤ 192 * 192 + 192 := by
            rw [List.length_append]
            have q1 := tpO_len σ c (fun a => L.getD a []) N a
            have q2 := tpI_len σ c (fun a => L.getD a []) a m
            have q3 : a * N ≤ 192 * 192 := Nat.mul_le_mul (by omega) hlen
            omega
          rw [← List.append_assoc]
          generalize tpO σ c (fun a => L.getD a []) N a ++ tpI σ c (fun a => L.getD a []) a m = T9 at hT9 ⊢
          generalize a + 1 + m = b at hb ⊢
          intro h3 ih3
          have e84 : J3 84 4 = N := by rw [f3 _ _ (by decide)]; exact hwn
          have ex : ∀ x, x < N → xrow J3 x = L.getD x [] := fun x hx => by rw [← (hz x hx).2]; exact xrow_cong (f3 _ _ (by decide)) (fun k => f3 _ _ (by omega))
          have e280 : ∀ x, J3 280 x = J 280 x := fun x => f3 _ _ (by decide)
          have ep : ∀ k, J3 p k = J p k := fun k => f3 _ _ (by omega)
          have hza := (hz a (by omega)).1
          have hzb := (hz b hb).1
          have la := hl6 a (by omega)
          have lb := hl6 b hb
          have tel := tel_iff (σ := σ) (c := c) (A := L.getD a []) (B := L.getD b []) la.1 hw
          refine gX3_links_36 (J := J3) hL p a b (br_n (by omega) ?_)
          simp only [Int.toNat_natCast, e280, ep, ex a (by omega), ex b hb, j1, j2]
          rw [la.2] at tel
          have t1 : tp1 σ c (fun a => L.getD a []) a b = if tls σ c (L.getD a []) (L.getD b []) then [((L.getD a []).getD (unl (L.getD a []) (L.getD b [])).toNat 0, (L.getD b []).getD (unl (L.getD a []) (L.getD b [])).toNat 0)] else [] := rfl
          have skip : ¬ tls σ c (L.getD a []) (L.getD b []) → V w 2 mX3_links 36 [some (vR 84), some (vR p), some (vI (a : Int)), some (vI ((b + 1 : Nat) : Int)), none] [] S J3 Q := fun q => by
            refine ih3 J3 ⟨f3, fun u v hu hv => ?_⟩
            rw [t1, if_neg q, List.append_nil]
            exact h3 u v hu hv
          (repeat' (first | ((with_reducible refine And.intro ?_ ?_); omega)))
          refine br_i (fun c1 => ?_) (fun c1 => ?_)
          · (repeat' (first | ((with_reducible refine And.intro ?_ ?_); omega)))
            refine br_i (fun c2 => ?_) (fun c2 => ?_)
            · have ht9 := tel.mp ⟨c1, c2⟩
              have hne : ulx (L.getD a []) (L.getD b []) = unl (L.getD a []) (L.getD b []) := by
                unfold ulx at c1 ⊢
                split
                · rename_i z; rw [if_pos z] at c1; omega
                · rfl
              rw [hne] at c1 ⊢
              obtain ⟨hll, i, ei9, hi, hdiff, -⟩ := (unl_spec (L.getD a []) (L.getD b [])).resolve_left ht9.1
              rw [ei9] at c1 ⊢
              rw [if_pos ht9, ei9] at t1
              simp only [Int.toNat_natCast] at t1 ⊢
              have va : J3 (88 + a) i = (L.getD a []).getD i 0 := by rw [← ex a (by omega), xrow_get (by rw [e280]; omega)]
              have vb : J3 (88 + b) i = (L.getD b []).getD i 0 := by rw [← ex b hb, xrow_get (by rw [e280]; omega)]
              have ra := hE a (by omega) i hi
              have rb := hE b hb i (by omega)
              rw [va, vb]
              revert ra rb hdiff t1
              generalize (L.getD a []).getD i 0 = x
              generalize (L.getD b []).getD i 0 = y
              intro t1 hdiff ra rb
              obtain ⟨lo, elo⟩ : ∃ m : Nat, zmin x y = m := ⟨(zmin x y).toNat, by unfold zmin; split <;> omega⟩
              obtain ⟨hi', ehi⟩ : ∃ m : Nat, zmax x y = m := ⟨(zmax x y).toNat, by unfold zmax; split <;> omega⟩
              have hlh : lo < hi' ∧ hi' < 40 ∧ ((x = lo ∧ y = hi') ∨ (x = hi' ∧ y = lo)) := by
                unfold zmin at elo
                unfold zmax at ehi
                split at elo <;> split at ehi <;> omega
              have e9 := h3 lo hi' hlh.1 hlh.2.1
              have b9 := cntP_le (lo : Int) (hi' : Int) T9
              rw [elo, ehi, show (40 * (lo : Int) + (hi' : Int)).toNat = 40 * lo + hi' by omega, e9]
              (repeat' (first | ((with_reducible refine And.intro ?_ ?_); omega)))
              refine ih3 _ ⟨fun x' k q => by rw [up_na q, f3 x' k q], fun u v hu hv => ?_⟩
              rw [t1, cntP_app, cntP_1]
              by_cases q : u = lo ∧ v = hi'
              · obtain ⟨rfl, rfl⟩ := q
                rw [up_self, if_pos (by omega)]
                push_cast
                rfl
              · rw [up_nk (by omega), if_neg (by omega), h3 u v hu hv]
                rfl
            · (repeat' (first | ((with_reducible refine And.intro ?_ ?_); omega)))
              exact skip (fun q => c2 (tel.mpr q).2)
          · (repeat' (first | ((with_reducible refine And.intro ?_ ?_); omega)))
            exact skip (fun q => c1 (tel.mpr q).1)) (by
          intro J3 ⟨f3, h3⟩
          refine gX3_links_36 (J := J3) hL p a (a + 1 + (N - (a + 1))) (br_y (by rw [f3 _ _ (by decide), hwn]; omega) ⟨by omega, ?_⟩)
          exact ih J3 ⟨f3, h3⟩)
      exact go 0 J2 (by omega) ⟨f2, fun u v hu hv => by rw [h2 u v hu hv]; rw [show tpI σ c (fun a => L.getD a []) a 0 = [] from rfl, List.append_nil]⟩
    · intro J2 ⟨f2, h2⟩
      refine gX3_links_24 (J := J2) hL p N (br_y (by rw [f2 _ _ (by decide), hwn]; omega) ?_)
      refine last J2 f2 (fun u v hu hv => ?_)
      rw [h2 u v hu hv]
      unfold tpOf
      rw [hN]
  refine gX3_links_0 hL p ?_
  refine up_loop (P := fun k J1 => (∀ x j, x ≠ 285 → J1 x j = J x j) ∧ ∀ q, q < k → J1 285 q = 0) 1600
    (fun k J1 => V w 2 mX3_links 2 [some (vR 84), some (vR p), some (vI (k : Int)), none, none] [] S J1 Q) ?_ ?_ 0 J (by omega) ⟨fun _ _ _ => rfl, fun q hq => absurd hq (by omega)⟩
  · intro k J1 hk ⟨f1, h1⟩ ih
    refine gX3_links_2 (J := J1) hL p k (br_n (by omega) ?_)
    (repeat' (first | ((with_reducible refine And.intro ?_ ?_); omega)))
    refine ih _ ⟨fun x j q => by rw [up_na q, f1 x j q], fun q hq => ?_⟩
    by_cases e : q = k
    · rw [e, up_self]
    · rw [up_nk e]; exact h1 q (by omega)
  · intro J1 ⟨f1, h1⟩
    refine gX3_links_2 (J := J1) hL p 1600 (br_y (by omega) ?_)
    exact count J1 f1 h1
