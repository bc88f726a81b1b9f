/-! GridRoom: clashes -/
set_option maxRecDepth 100000

def PRe (J J' : Jm) : Prop := (∀ x k, x ≠ 283 → J' x k = J x k) ∧ ∀ o a b : Nat, o < 2 → a < 40 → b < 40 → J' 283 (1600 * o + 40 * a + b) = oX (dO (xkE J o) a b)
theorem s_reachesR {w : Wd} {S : Sh} {J : Jm} {Q : Out → Sh → Jm → Prop} (hL : Lay S) (h01 : ∀ q : Nat, q < 3200 → J 281 q = 0 ∨ J 281 q = 1) (K : ∀ J', PRe J J' → Q (.inl none) S J') : V w 1 mX3_reaches 0 (ent mX3_reaches [vR 84]) [] S J Q := s_reaches hL h01 (fun J' h1 h2 => K J' ⟨h1, h2⟩)
theorem gX3_isParted_0 {w : Wd} {S : Sh} {J : Jm} {Q : Out → Sh → Jm → Prop} (hL : Lay S) (o : Int) (a : Int) (b : Int)
    (K : ((0 ≤ o ∧ o < 2) ∧ (0 ≤ a ∧ a < 40) ∧ (0 ≤ b ∧ b < 40)) ∧ (0 ≤ 40 * (40 * o + a) + b) ∧ (40 * (40 * o + a) + b < 3200) ∧ (J 282 (40 * (40 * o + a) + b).toNat = 0 ∨ J 282 (40 * (40 * o + a) + b).toNat = 1) ∧ Q (.inl (some (vI (J 282 (40 * (40 * o + a) + b).toNat)))) S J) :
    V w 1 mX3_isParted 0 (ent mX3_isParted [vR 84, vI o, vI a, vI b]) [] S J Q := by
  show V w 1 mX3_isParted 0 [some (vR 84), some (vI o), some (vI a), some (vI b)] [] S J Q
  refine v_shp (fun hs0 => ?_)
  refine v_aload_n dX3_isParted_0 rfl ?_
  refine v_getR dX3_isParted_1 frX3_34_3 rfl (L_84 hL).1 (LR_84_8 hL) (Or.inl rfl) ?_
  refine v_aload_n dX3_isParted_4 rfl ?_
  refine v_iload_n dX3_isParted_5 rfl ?_
  refine v_iload_n dX3_isParted_6 rfl ?_
  refine v_iload_n dX3_isParted_7 rfl ?_
  refine v_callV (d' := 0) (rest := [vR 282]) [vI o, vI a, vI b] dX3_isParted_8 vrX3_159_3 (L_84 hL).1 rfl rfl (one_I (one_I (one_I one_nil))) (Nat.le_of_ble_eq_true rfl) (Nat.le_of_ble_eq_true rfl) (Nat.le_of_ble_eq_true rfl) ?_
  obtain ⟨o1, K⟩ := K
  refine s_at hL o a b o1 ?_
  show V w 1 mX3_isParted 11 [some (vR 84), some (vI o), some (vI a), some (vI b)] [vI (40 * (40 * o + a) + b), vR 282] S J Q
  obtain ⟨o2, K⟩ := K
  obtain ⟨o3, K⟩ := K
  refine ld_282 dX3_isParted_11 hL o2 o3 ?_
  obtain ⟨o4, K⟩ := K
  exact v_iret dX3_isParted_12 rfl (zfit_bool o4).1 K
theorem gX3_clash_0 {w : Wd} {S : Sh} {J : Jm} {Q : Out → Sh → Jm → Prop} (hL : Lay S) (a : Int) (b : Int) (kind : Int) (sort : Int) (links : Int)
    (K : Q (.inl none) S (up (up (up (up (up J 84 13 a) 84 14 b) 84 15 kind) 84 16 sort) 84 17 links)) :
    V w 0 mX3_clash 0 (ent mX3_clash [vR 84, vI a, vI b, vI kind, vI sort, vI links]) [] S J Q := by
  show V w 0 mX3_clash 0 [some (vR 84), some (vI a), some (vI b), some (vI kind), some (vI sort), some (vI links)] [] S J Q
  refine v_shp (fun hs0 => ?_)
  refine v_aload_n dX3_clash_0 rfl ?_
  refine v_iload_n dX3_clash_1 rfl ?_
  refine v_putI dX3_clash_2 frX3_222_3 (fun _ _ _ h => by cases h; exact Or.inl rfl) rfl rfl zfit_int (L_84 hL).1 ?_
  show V w 0 mX3_clash 5 [some (vR 84), some (vI a), some (vI b), some (vI kind), some (vI sort), some (vI links)] [] S (up J 84 13 a) Q
  refine v_aload_n dX3_clash_5 rfl ?_
  refine v_iload_n dX3_clash_6 rfl ?_
  refine v_putI dX3_clash_7 frX3_225_3 (fun _ _ _ h => by cases h; exact Or.inl rfl) rfl rfl zfit_int (L_84 hL).1 ?_
  show V w 0 mX3_clash 10 [some (vR 84), some (vI a), some (vI b), some (vI kind), some (vI sort), some (vI links)] [] S (up (up J 84 13 a) 84 14 b) Q
  refine v_aload_n dX3_clash_10 rfl ?_
  refine v_iload_n dX3_clash_11 rfl ?_
  refine v_putI dX3_clash_12 frX3_228_3 (fun _ _ _ h => by cases h; exact Or.inl rfl) rfl rfl zfit_int (L_84 hL).1 ?_
  show V w 0 mX3_clash 15 [some (vR 84), some (vI a), some (vI b), some (vI kind), some (vI sort), some (vI links)] [] S (up (up (up J 84 13 a) 84 14 b) 84 15 kind) Q
  refine v_aload_n dX3_clash_15 rfl ?_
  refine v_iload dX3_clash_16 rfl ?_
  refine v_putI dX3_clash_18 frX3_231_3 (fun _ _ _ h => by cases h; exact Or.inl rfl) rfl rfl zfit_int (L_84 hL).1 ?_
  show V w 0 mX3_clash 21 [some (vR 84), some (vI a), some (vI b), some (vI kind), some (vI sort), some (vI links)] [] S (up (up (up (up J 84 13 a) 84 14 b) 84 15 kind) 84 16 sort) Q
  refine v_aload_n dX3_clash_21 rfl ?_
  refine v_iload dX3_clash_22 rfl ?_
  refine v_putI dX3_clash_24 frX3_213_3 (fun _ _ _ h => by cases h; exact Or.inl rfl) rfl rfl zfit_int (L_84 hL).1 ?_
  show V w 0 mX3_clash 27 [some (vR 84), some (vI a), some (vI b), some (vI kind), some (vI sort), some (vI links)] [] S (up (up (up (up (up J 84 13 a) 84 14 b) 84 15 kind) 84 16 sort) 84 17 links) Q
  exact v_vret dX3_clash_27 rfl K

theorem s_isPartedX {w : Wd} {S : Sh} {J : Jm} {Q : Out → Sh → Jm → Prop} (hL : Lay S) (o a b : Int) (h : (0 ≤ o ∧ o < 2) ∧ (0 ≤ a ∧ a < 40) ∧ (0 ≤ b ∧ b < 40)) (h01 : ∀ q : Nat, q < 3200 → J 282 q = 0 ∨ J 282 q = 1) (K1 : ¬ J 282 (1600 * o.toNat + 40 * a.toNat + b.toNat) = 0 → Q (.inl (some (vI 1))) S J) (K2 : ¬ ¬ J 282 (1600 * o.toNat + 40 * a.toNat + b.toNat) = 0 → Q (.inl (some (vI 0))) S J) : V w 1 mX3_isParted 0 (ent mX3_isParted [vR 84, vI o, vI a, vI b]) [] S J Q := by
  have e : (40 * (40 * o + a) + b).toNat = 1600 * o.toNat + 40 * a.toNat + b.toNat := by omega
  have h9 := h01 (1600 * o.toNat + 40 * a.toNat + b.toNat) (by omega)
  refine gX3_isParted_0 hL o a b ?_
  rw [e]
  refine ⟨h, by omega, by omega, h9, ?_⟩
  rcases h9 with q | q
  · rw [q]; exact K2 (fun z => z q)
  · rw [q]; exact K1 (fun z => by rw [q] at z; cases z)
def xcU (J : Jm) (a b kind sort links : Int) : Jm := up (up (up (up (up J 84 13 a) 84 14 b) 84 15 kind) 84 16 sort) 84 17 links
theorem s_xclash1 {w : Wd} {S : Sh} {J : Jm} {Q : Out → Sh → Jm → Prop} (hL : Lay S) (a b kind sort links : Int) (K : ∀ J', J' = xcU J a b kind sort links → Q (.inl none) S J') : V w 0 mX3_clash 0 (ent mX3_clash [vR 84, vI a, vI b, vI kind, vI sort, vI links]) [] S J Q := gX3_clash_0 hL a b kind sort links (K _ rfl)
theorem gX3_clashes_0 {w : Wd} {S : Sh} {J : Jm} {Q : Out → Sh → Jm → Prop} (hL : Lay S) 
    (K : (∀ q : Nat, q < 3200 → J 281 q = 0 ∨ J 281 q = 1) ∧ (∀ (J1 : Jm), PRe J J1 → V w 2 mX3_clashes 13 [some (vR 84), some (vI 0), none, none, none] [] S (up J1 84 17 1000) Q)) :
    V w 2 mX3_clashes 0 (ent mX3_clashes [vR 84]) [] S J Q := by
  show V w 2 mX3_clashes 0 [some (vR 84), none, none, none, none] [] S J Q
  refine v_shp (fun hs0 => ?_)
  refine v_aload_n dX3_clashes_0 rfl ?_
  refine v_callV (d' := 1) (rest := []) [] dX3_clashes_1 vrX3_210_3 (L_84 hL).1 rfl rfl one_nil (Nat.le_of_ble_eq_true rfl) (Nat.le_of_ble_eq_true rfl) (Nat.le_of_ble_eq_true rfl) ?_
  obtain ⟨o1, K⟩ := K
  refine s_reachesR hL  o1 (fun J1 hp => ?_)
  have K := K J1 hp
  show V w 2 mX3_clashes 4 [some (vR 84), none, none, none, none] [] S J1 Q
  refine v_aload_n dX3_clashes_4 rfl ?_
  refine v_sipush dX3_clashes_5 (by decide) (in_lit (by decide)) ?_
  refine v_putI dX3_clashes_8 frX3_213_3 (fun _ _ _ h => by cases h; exact Or.inl rfl) rfl rfl zfit_int (L_84 hL).1 ?_
  show V w 2 mX3_clashes 11 [some (vR 84), none, none, none, none] [] S (up J1 84 17 1000) Q
  refine v_iconst dX3_clashes_11 (in_lit (by decide)) ?_
  refine v_istore_n dX3_clashes_12 (Nat.le_of_ble_eq_true rfl) ?_
  show V w 2 mX3_clashes 13 [some (vR 84), some (vI 0), none, none, none] [] S (up J1 84 17 1000) Q
  exact K
theorem gX3_clashes_13 {w : Wd} {S : Sh} {J : Jm} {Q : Out → Sh → Jm → Prop} (hL : Lay S) (a : Nat)
    (K : Br (40 ≤ ((a : Nat) : Int)) (Br (1000 ≤ J 84 17) (Q (.inl (some (vI 0))) S J) (Q (.inl (some (vI 1))) S J)) ((-2147483648 ≤ ((a : Nat) : Int) + 1 ∧ ((a : Nat) : Int) + 1 ≤ 2147483647) ∧ V w 2 mX3_clashes 23 [some (vR 84), some (vI ((a : Nat) : Int)), some (vI ((a + 1 : Nat) : Int)), none, none] [] S J Q)) :
    V w 2 mX3_clashes 13 [some (vR 84), some (vI ((a : Nat) : Int)), none, none, none] [] S J Q := by
  refine v_shp (fun hs0 => ?_)
  refine v_iload_n dX3_clashes_13 rfl ?_
  refine v_bipush dX3_clashes_14 (by decide) (in_lit (by decide)) ?_
  obtain ⟨K1, K2⟩ := K
  refine v_icmp_ge 152 dX3_clashes_16 (by decide) (fun c1 => ?_) (fun c1 => ?_)
  · have K := K1 c1
    refine v_aload_n dX3_clashes_152 rfl ?_
    refine v_getI dX3_clashes_153 frX3_213_3 rfl rfl (L_84 hL).1 ?_
    refine v_sipush dX3_clashes_156 (by decide) (in_lit (by decide)) ?_
    obtain ⟨K1, K2⟩ := K
    refine v_icmp_ge 166 dX3_clashes_159 (by decide) (fun c2 => ?_) (fun c2 => ?_)
    · have K := K1 c2
      refine v_iconst dX3_clashes_166 (in_lit (by decide)) ?_
      exact v_iret dX3_clashes_167 rfl (by decide) K
    · have K := K2 c2
      refine v_iconst dX3_clashes_162 (in_lit (by decide)) ?_
      refine v_goto 167 dX3_clashes_163 (by decide) ?_
      exact v_iret dX3_clashes_167 rfl (by decide) K
  · have K := K2 c1
    refine v_iload_n dX3_clashes_19 rfl ?_
    refine v_iconst dX3_clashes_20 (in_lit (by decide)) ?_
    obtain ⟨o1, K⟩ := K
    refine v_iadd dX3_clashes_21 o1 ?_
    show V w 2 mX3_clashes 22 [some (vR 84), some (vI ((a : Nat) : Int)), none, none, none] [vI ((a + 1 : Nat) : Int)] S J Q
    refine v_istore_n dX3_clashes_22 (Nat.le_of_ble_eq_true rfl) ?_
    show V w 2 mX3_clashes 23 [some (vR 84), some (vI ((a : Nat) : Int)), some (vI ((a + 1 : Nat) : Int)), none, none] [] S J Q
    exact K
theorem gX3_clashes_23 {w : Wd} {S : Sh} {J : Jm} {Q : Out → Sh → Jm → Prop} (hL : Lay S) (a : Nat) (b : Nat)
    (K : Br (40 ≤ ((b : Nat) : Int)) ((-2147483648 ≤ ((a : Nat) : Int) + 1 ∧ ((a : Nat) : Int) + 1 ≤ 2147483647) ∧ V w 2 mX3_clashes 13 [some (vR 84), some (vI ((a + 1 : Nat) : Int)), none, none, none] [] S J Q) (((0 ≤ (0 : Int) ∧ (0 : Int) < 2) ∧ (0 ≤ ((a : Nat) : Int) ∧ ((a : Nat) : Int) < 40) ∧ (0 ≤ ((b : Nat) : Int) ∧ ((b : Nat) : Int) < 40)) ∧ (0 ≤ 40 * (40 * (0 : Int) + ((a : Nat) : Int)) + ((b : Nat) : Int)) ∧ (40 * (40 * (0 : Int) + ((a : Nat) : Int)) + ((b : Nat) : Int) < 3200) ∧ ((0 ≤ (1 : Int) ∧ (1 : Int) < 2) ∧ (0 ≤ ((a : Nat) : Int) ∧ ((a : Nat) : Int) < 40) ∧ (0 ≤ ((b : Nat) : Int) ∧ ((b : Nat) : Int) < 40)) ∧ (0 ≤ 40 * (40 * (1 : Int) + ((a : Nat) : Int)) + ((b : Nat) : Int)) ∧ (40 * (40 * (1 : Int) + ((a : Nat) : Int)) + ((b : Nat) : Int) < 3200) ∧ (-2147483648 ≤ (J 283 (40 * (40 * (0 : Int) + ((a : Nat) : Int)) + ((b : Nat) : Int)).toNat) + (J 283 (40 * (40 * (1 : Int) + ((a : Nat) : Int)) + ((b : Nat) : Int)).toNat) ∧ (J 283 (40 * (40 * (0 : Int) + ((a : Nat) : Int)) + ((b : Nat) : Int)).toNat) + (J 283 (40 * (40 * (1 : Int) + ((a : Nat) : Int)) + ((b : Nat) : Int)).toNat) ≤ 2147483647) ∧ Br (J 84 17 ≤ (J 283 (40 * (40 * (0 : Int) + ((a : Nat) : Int)) + ((b : Nat) : Int)).toNat) + (J 283 (40 * (40 * (1 : Int) + ((a : Nat) : Int)) + ((b : Nat) : Int)).toNat)) (V w 2 mX3_clashes 75 [some (vR 84), some (vI ((a : Nat) : Int)), some (vI ((b : Nat) : Int)), none, some (vI 0)] [] S J Q) ((∀ (J1 : Jm), J1 = xcU J ((a : Nat) : Int) ((b : Nat) : Int) (1 : Int) (0 : Int) ((J 283 (40 * (40 * (0 : Int) + ((a : Nat) : Int)) + ((b : Nat) : Int)).toNat) + (J 283 (40 * (40 * (1 : Int) + ((a : Nat) : Int)) + ((b : Nat) : Int)).toNat)) → V w 2 mX3_clashes 75 [some (vR 84), some (vI ((a : Nat) : Int)), some (vI ((b : Nat) : Int)), none, some (vI 0)] [] S J1 Q)))) :
    V w 2 mX3_clashes 23 [some (vR 84), some (vI ((a : Nat) : Int)), some (vI ((b : Nat) : Int)), none, none] [] S J Q := by
  refine v_shp (fun hs0 => ?_)
  refine v_iload_n dX3_clashes_23 rfl ?_
  refine v_bipush dX3_clashes_24 (by decide) (in_lit (by decide)) ?_
  obtain ⟨K1, K2⟩ := K
  refine v_icmp_ge 146 dX3_clashes_26 (by decide) (fun c1 => ?_) (fun c1 => ?_)
  · have K := K1 c1
    obtain ⟨o1, K⟩ := K
    refine v_iinc dX3_clashes_146 rfl o1 ?_
    show V w 2 mX3_clashes 149 [some (vR 84), some (vI ((a + 1 : Nat) : Int)), some (vI ((b : Nat) : Int)), none, none] [] S J Q
    refine v_goto 13 dX3_clashes_149 (by decide) ?_
    exact v_forget (fg_some (fg_some (fg_none (fg_none (fg_none fg_nil))))) K
  · have K := K2 c1
    refine v_aload_n dX3_clashes_29 rfl ?_
    refine v_getR dX3_clashes_30 frX3_37_3 rfl (L_84 hL).1 (LR_84_9 hL) (Or.inl rfl) ?_
    refine v_aload_n dX3_clashes_33 rfl ?_
    refine v_iconst dX3_clashes_34 (in_lit (by decide)) ?_
    refine v_iload_n dX3_clashes_35 rfl ?_
    refine v_iload_n dX3_clashes_36 rfl ?_
    refine v_callV (d' := 0) (rest := [vR 283]) [vI 0, vI ((a : Nat) : Int), vI ((b : Nat) : Int)] dX3_clashes_37 vrX3_159_3 (L_84 hL).1 rfl rfl (one_I (one_I (one_I one_nil))) (Nat.le_of_ble_eq_true rfl) (Nat.le_of_ble_eq_true rfl) (Nat.le_of_ble_eq_true rfl) ?_
    obtain ⟨o2, K⟩ := K
    refine s_at hL (0 : Int) ((a : Nat) : Int) ((b : Nat) : Int) o2 ?_
    show V w 2 mX3_clashes 40 [some (vR 84), some (vI ((a : Nat) : Int)), some (vI ((b : Nat) : Int)), none, none] [vI (40 * (40 * (0 : Int) + ((a : Nat) : Int)) + ((b : Nat) : Int)), vR 283] S J Q
    obtain ⟨o3, K⟩ := K
    obtain ⟨o4, K⟩ := K
    refine ld_283 dX3_clashes_40 hL o3 o4 ?_
    refine v_aload_n dX3_clashes_41 rfl ?_
    refine v_getR dX3_clashes_42 frX3_37_3 rfl (L_84 hL).1 (LR_84_9 hL) (Or.inl rfl) ?_
    refine v_aload_n dX3_clashes_45 rfl ?_
    refine v_iconst dX3_clashes_46 (in_lit (by decide)) ?_
    refine v_iload_n dX3_clashes_47 rfl ?_
    refine v_iload_n dX3_clashes_48 rfl ?_
    refine v_callV (d' := 0) (rest := [vR 283, vI (J 283 (40 * (40 * (0 : Int) + ((a : Nat) : Int)) + ((b : Nat) : Int)).toNat)]) [vI 1, vI ((a : Nat) : Int), vI ((b : Nat) : Int)] dX3_clashes_49 vrX3_159_3 (L_84 hL).1 rfl rfl (one_I (one_I (one_I one_nil))) (Nat.le_of_ble_eq_true rfl) (Nat.le_of_ble_eq_true rfl) (Nat.le_of_ble_eq_true rfl) ?_
    obtain ⟨o5, K⟩ := K
    refine s_at hL (1 : Int) ((a : Nat) : Int) ((b : Nat) : Int) o5 ?_
    show V w 2 mX3_clashes 52 [some (vR 84), some (vI ((a : Nat) : Int)), some (vI ((b : Nat) : Int)), none, none] [vI (40 * (40 * (1 : Int) + ((a : Nat) : Int)) + ((b : Nat) : Int)), vR 283, vI (J 283 (40 * (40 * (0 : Int) + ((a : Nat) : Int)) + ((b : Nat) : Int)).toNat)] S J Q
    obtain ⟨o6, K⟩ := K
    obtain ⟨o7, K⟩ := K
    refine ld_283 dX3_clashes_52 hL o6 o7 ?_
    obtain ⟨o8, K⟩ := K
    refine v_iadd dX3_clashes_53 o8 ?_
    refine v_istore_n dX3_clashes_54 (Nat.le_of_ble_eq_true rfl) ?_
    show V w 2 mX3_clashes 55 [some (vR 84), some (vI ((a : Nat) : Int)), some (vI ((b : Nat) : Int)), some (vI ((J 283 (40 * (40 * (0 : Int) + ((a : Nat) : Int)) + ((b : Nat) : Int)).toNat) + (J 283 (40 * (40 * (1 : Int) + ((a : Nat) : Int)) + ((b : Nat) : Int)).toNat))), none] [] S J Q
    refine v_iload_n dX3_clashes_55 rfl ?_
    refine v_aload_n dX3_clashes_56 rfl ?_
    refine v_getI dX3_clashes_57 frX3_213_3 rfl rfl (L_84 hL).1 ?_
    obtain ⟨K1, K2⟩ := K
    refine v_icmp_ge 72 dX3_clashes_60 (by decide) (fun c2 => ?_) (fun c2 => ?_)
    · have K := K1 c2
      refine v_iconst dX3_clashes_72 (in_lit (by decide)) ?_
      refine v_istore dX3_clashes_73 (Nat.le_of_ble_eq_true rfl) ?_
      show V w 2 mX3_clashes 75 [some (vR 84), some (vI ((a : Nat) : Int)), some (vI ((b : Nat) : Int)), some (vI ((J 283 (40 * (40 * (0 : Int) + ((a : Nat) : Int)) + ((b : Nat) : Int)).toNat) + (J 283 (40 * (40 * (1 : Int) + ((a : Nat) : Int)) + ((b : Nat) : Int)).toNat))), some (vI 0)] [] S J Q
      exact v_forget (fg_some (fg_some (fg_some (fg_none (fg_some fg_nil))))) K
    · have K := K2 c2
      refine v_aload_n dX3_clashes_63 rfl ?_
      refine v_iload_n dX3_clashes_64 rfl ?_
      refine v_iload_n dX3_clashes_65 rfl ?_
      refine v_iconst dX3_clashes_66 (in_lit (by decide)) ?_
      refine v_iconst dX3_clashes_67 (in_lit (by decide)) ?_
      refine v_iload_n dX3_clashes_68 rfl ?_
      refine v_callV (d' := 0) (rest := []) [vI ((a : Nat) : Int), vI ((b : Nat) : Int), vI 1, vI 0, vI ((J 283 (40 * (40 * (0 : Int) + ((a : Nat) : Int)) + ((b : Nat) : Int)).toNat) + (J 283 (40 * (40 * (1 : Int) + ((a : Nat) : Int)) + ((b : Nat) : Int)).toNat))] dX3_clashes_69 vrX3_216_3 (L_84 hL).1 rfl rfl (one_I (one_I (one_I (one_I (one_I one_nil))))) (Nat.le_of_ble_eq_true rfl) (Nat.le_of_ble_eq_true rfl) (Nat.le_of_ble_eq_true rfl) ?_
      refine s_xclash1 hL ((a : Nat) : Int) ((b : Nat) : Int) (1 : Int) (0 : Int) ((J 283 (40 * (40 * (0 : Int) + ((a : Nat) : Int)) + ((b : Nat) : Int)).toNat) + (J 283 (40 * (40 * (1 : Int) + ((a : Nat) : Int)) + ((b : Nat) : Int)).toNat))  (fun J1 hp => ?_)
      have K := K J1 hp
      show V w 2 mX3_clashes 72 [some (vR 84), some (vI ((a : Nat) : Int)), some (vI ((b : Nat) : Int)), some (vI ((J 283 (40 * (40 * (0 : Int) + ((a : Nat) : Int)) + ((b : Nat) : Int)).toNat) + (J 283 (40 * (40 * (1 : Int) + ((a : Nat) : Int)) + ((b : Nat) : Int)).toNat))), none] [] S J1 Q
      refine v_iconst dX3_clashes_72 (in_lit (by decide)) ?_
      refine v_istore dX3_clashes_73 (Nat.le_of_ble_eq_true rfl) ?_
      show V w 2 mX3_clashes 75 [some (vR 84), some (vI ((a : Nat) : Int)), some (vI ((b : Nat) : Int)), some (vI ((J 283 (40 * (40 * (0 : Int) + ((a : Nat) : Int)) + ((b : Nat) : Int)).toNat) + (J 283 (40 * (40 * (1 : Int) + ((a : Nat) : Int)) + ((b : Nat) : Int)).toNat))), some (vI 0)] [] S J1 Q
      exact v_forget (fg_some (fg_some (fg_some (fg_none (fg_some fg_nil))))) K
theorem gX3_clashes_75 {w : Wd} {S : Sh} {J : Jm} {Q : Out → Sh → Jm → Prop} (hL : Lay S) (a : Nat) (b : Nat) (o : Nat)
    (K : Br (2 ≤ ((o : Nat) : Int)) ((-2147483648 ≤ ((b : Nat) : Int) + 1 ∧ ((b : Nat) : Int) + 1 ≤ 2147483647) ∧ V w 2 mX3_clashes 23 [some (vR 84), some (vI ((a : Nat) : Int)), some (vI ((b + 1 : Nat) : Int)), none, none] [] S J Q) (((0 ≤ ((o : Nat) : Int) ∧ ((o : Nat) : Int) < 2) ∧ (0 ≤ ((a : Nat) : Int) ∧ ((a : Nat) : Int) < 40) ∧ (0 ≤ ((b : Nat) : Int) ∧ ((b : Nat) : Int) < 40)) ∧ (∀ q : Nat, q < 3200 → J 282 q = 0 ∨ J 282 q = 1) ∧ Br (¬ J 282 (1600 * (((o : Nat) : Int)).toNat + 40 * (((a : Nat) : Int)).toNat + (((b : Nat) : Int)).toNat) = 0) ((0 ≤ 40 * (40 * ((o : Nat) : Int) + ((a : Nat) : Int)) + ((b : Nat) : Int)) ∧ (40 * (40 * ((o : Nat) : Int) + ((a : Nat) : Int)) + ((b : Nat) : Int) < 3200) ∧ Br (J 84 17 ≤ J 283 (40 * (40 * ((o : Nat) : Int) + ((a : Nat) : Int)) + ((b : Nat) : Int)).toNat) ((-2147483648 ≤ ((o : Nat) : Int) + 1 ∧ ((o : Nat) : Int) + 1 ≤ 2147483647) ∧ V w 2 mX3_clashes 75 [some (vR 84), some (vI ((a : Nat) : Int)), some (vI ((b : Nat) : Int)), none, some (vI ((o + 1 : Nat) : Int))] [] S J Q) ((∀ (J1 : Jm), J1 = xcU J ((a : Nat) : Int) ((b : Nat) : Int) (2 : Int) ((o : Nat) : Int) (J 283 (40 * (40 * ((o : Nat) : Int) + ((a : Nat) : Int)) + ((b : Nat) : Int)).toNat) → (-2147483648 ≤ ((o : Nat) : Int) + 1 ∧ ((o : Nat) : Int) + 1 ≤ 2147483647) ∧ V w 2 mX3_clashes 75 [some (vR 84), some (vI ((a : Nat) : Int)), some (vI ((b : Nat) : Int)), none, some (vI ((o + 1 : Nat) : Int))] [] S J1 Q))) ((-2147483648 ≤ ((o : Nat) : Int) + 1 ∧ ((o : Nat) : Int) + 1 ≤ 2147483647) ∧ V w 2 mX3_clashes 75 [some (vR 84), some (vI ((a : Nat) : Int)), some (vI ((b : Nat) : Int)), none, some (vI ((o + 1 : Nat) : Int))] [] S J Q))) :
    V w 2 mX3_clashes 75 [some (vR 84), some (vI ((a : Nat) : Int)), some (vI ((b : Nat) : Int)), none, some (vI ((o : Nat) : Int))] [] S J Q := by
  refine v_shp (fun hs0 => ?_)
  refine v_iload dX3_clashes_75 rfl ?_
  refine v_iconst dX3_clashes_77 (in_lit (by decide)) ?_
  obtain ⟨K1, K2⟩ := K
  refine v_icmp_ge 140 dX3_clashes_78 (by decide) (fun c1 => ?_) (fun c1 => ?_)
  · have K := K1 c1
    obtain ⟨o1, K⟩ := K
    refine v_iinc dX3_clashes_140 rfl o1 ?_
    show V w 2 mX3_clashes 143 [some (vR 84), some (vI ((a : Nat) : Int)), some (vI ((b + 1 : Nat) : Int)), none, some (vI ((o : Nat) : Int))] [] S J Q
    refine v_goto 23 dX3_clashes_143 (by decide) ?_
    exact v_forget (fg_some (fg_some (fg_some (fg_none (fg_none fg_nil))))) K
  · have K := K2 c1
    refine v_aload_n dX3_clashes_81 rfl ?_
    refine v_iload dX3_clashes_82 rfl ?_
    refine v_iload_n dX3_clashes_84 rfl ?_
    refine v_iload_n dX3_clashes_85 rfl ?_
    refine v_callV (d' := 1) (rest := []) [vI ((o : Nat) : Int), vI ((a : Nat) : Int), vI ((b : Nat) : Int)] dX3_clashes_86 vrX3_220_3 (L_84 hL).1 rfl rfl (one_I (one_I (one_I one_nil))) (Nat.le_of_ble_eq_true rfl) (Nat.le_of_ble_eq_true rfl) (Nat.le_of_ble_eq_true rfl) ?_
    obtain ⟨o2, K⟩ := K
    obtain ⟨o3, K⟩ := K
    obtain ⟨K1, K2⟩ := K
    refine s_isPartedX hL ((o : Nat) : Int) ((a : Nat) : Int) ((b : Nat) : Int) o2 o3 (fun c2 => ?_) (fun c2 => ?_)
    · have K := K1 c2
      show V w 2 mX3_clashes 89 [some (vR 84), some (vI ((a : Nat) : Int)), some (vI ((b : Nat) : Int)), none, some (vI ((o : Nat) : Int))] [vI 1] S J Q
      refine v_if_eq 134 dX3_clashes_89 (by decide) (fun cQ => absurd cQ (by decide)) (fun _ => ?_)
      refine v_aload_n dX3_clashes_92 rfl ?_
      refine v_getR dX3_clashes_93 frX3_37_3 rfl (L_84 hL).1 (LR_84_9 hL) (Or.inl rfl) ?_
      refine v_aload_n dX3_clashes_96 rfl ?_
      refine v_iload dX3_clashes_97 rfl ?_
      refine v_iload_n dX3_clashes_99 rfl ?_
      refine v_iload_n dX3_clashes_100 rfl ?_
      refine v_callV (d' := 0) (rest := [vR 283]) [vI ((o : Nat) : Int), vI ((a : Nat) : Int), vI ((b : Nat) : Int)] dX3_clashes_101 vrX3_159_3 (L_84 hL).1 rfl rfl (one_I (one_I (one_I one_nil))) (Nat.le_of_ble_eq_true rfl) (Nat.le_of_ble_eq_true rfl) (Nat.le_of_ble_eq_true rfl) ?_
      refine s_at hL ((o : Nat) : Int) ((a : Nat) : Int) ((b : Nat) : Int) o2 ?_
      show V w 2 mX3_clashes 104 [some (vR 84), some (vI ((a : Nat) : Int)), some (vI ((b : Nat) : Int)), none, some (vI ((o : Nat) : Int))] [vI (40 * (40 * ((o : Nat) : Int) + ((a : Nat) : Int)) + ((b : Nat) : Int)), vR 283] S J Q
      obtain ⟨o4, K⟩ := K
      obtain ⟨o5, K⟩ := K
      refine ld_283 dX3_clashes_104 hL o4 o5 ?_
      refine v_aload_n dX3_clashes_105 rfl ?_
      refine v_getI dX3_clashes_106 frX3_213_3 rfl rfl (L_84 hL).1 ?_
      obtain ⟨K1, K2⟩ := K
      refine v_icmp_ge 134 dX3_clashes_109 (by decide) (fun c3 => ?_) (fun c3 => ?_)
      · have K := K1 c3
        obtain ⟨o6, K⟩ := K
        refine v_iinc dX3_clashes_134 rfl o6 ?_
        show V w 2 mX3_clashes 137 [some (vR 84), some (vI ((a : Nat) : Int)), some (vI ((b : Nat) : Int)), none, some (vI ((o + 1 : Nat) : Int))] [] S J Q
        refine v_goto 75 dX3_clashes_137 (by decide) ?_
        exact K
      · have K := K2 c3
        refine v_aload_n dX3_clashes_112 rfl ?_
        refine v_iload_n dX3_clashes_113 rfl ?_
        refine v_iload_n dX3_clashes_114 rfl ?_
        refine v_iconst dX3_clashes_115 (in_lit (by decide)) ?_
        refine v_iload dX3_clashes_116 rfl ?_
        refine v_aload_n dX3_clashes_118 rfl ?_
        refine v_getR dX3_clashes_119 frX3_37_3 rfl (L_84 hL).1 (LR_84_9 hL) (Or.inl rfl) ?_
        refine v_aload_n dX3_clashes_122 rfl ?_
        refine v_iload dX3_clashes_123 rfl ?_
        refine v_iload_n dX3_clashes_125 rfl ?_
        refine v_iload_n dX3_clashes_126 rfl ?_
        refine v_callV (d' := 0) (rest := [vR 283, vI ((o : Nat) : Int), vI 2, vI ((b : Nat) : Int), vI ((a : Nat) : Int), vR 84]) [vI ((o : Nat) : Int), vI ((a : Nat) : Int), vI ((b : Nat) : Int)] dX3_clashes_127 vrX3_159_3 (L_84 hL).1 rfl rfl (one_I (one_I (one_I one_nil))) (Nat.le_of_ble_eq_true rfl) (Nat.le_of_ble_eq_true rfl) (Nat.le_of_ble_eq_true rfl) ?_
        refine s_at hL ((o : Nat) : Int) ((a : Nat) : Int) ((b : Nat) : Int) o2 ?_
        show V w 2 mX3_clashes 130 [some (vR 84), some (vI ((a : Nat) : Int)), some (vI ((b : Nat) : Int)), none, some (vI ((o : Nat) : Int))] [vI (40 * (40 * ((o : Nat) : Int) + ((a : Nat) : Int)) + ((b : Nat) : Int)), vR 283, vI ((o : Nat) : Int), vI 2, vI ((b : Nat) : Int), vI ((a : Nat) : Int), vR 84] S J Q
        refine ld_283 dX3_clashes_130 hL o4 o5 ?_
        refine v_callV (d' := 0) (rest := []) [vI ((a : Nat) : Int), vI ((b : Nat) : Int), vI 2, vI ((o : Nat) : Int), vI (J 283 (40 * (40 * ((o : Nat) : Int) + ((a : Nat) : Int)) + ((b : Nat) : Int)).toNat)] dX3_clashes_131 vrX3_216_3 (L_84 hL).1 rfl rfl (one_I (one_I (one_I (one_I (one_I one_nil))))) (Nat.le_of_ble_eq_true rfl) (Nat.le_of_ble_eq_true rfl) (Nat.le_of_ble_eq_true rfl) ?_
        refine s_xclash1 hL ((a : Nat) : Int) ((b : Nat) : Int) (2 : Int) ((o : Nat) : Int) (J 283 (40 * (40 * ((o : Nat) : Int) + ((a : Nat) : Int)) + ((b : Nat) : Int)).toNat)  (fun J1 hp => ?_)
        have K := K J1 hp
        show V w 2 mX3_clashes 134 [some (vR 84), some (vI ((a : Nat) : Int)), some (vI ((b : Nat) : Int)), none, some (vI ((o : Nat) : Int))] [] S J1 Q
        obtain ⟨o7, K⟩ := K
        refine v_iinc dX3_clashes_134 rfl o7 ?_
        show V w 2 mX3_clashes 137 [some (vR 84), some (vI ((a : Nat) : Int)), some (vI ((b : Nat) : Int)), none, some (vI ((o + 1 : Nat) : Int))] [] S J1 Q
        refine v_goto 75 dX3_clashes_137 (by decide) ?_
        exact K
    · have K := K2 c2
      show V w 2 mX3_clashes 89 [some (vR 84), some (vI ((a : Nat) : Int)), some (vI ((b : Nat) : Int)), none, some (vI ((o : Nat) : Int))] [vI 0] S J Q
      refine v_if_eq 134 dX3_clashes_89 (by decide) (fun _ => ?_) (fun cQ => absurd cQ (by decide))
      obtain ⟨o8, K⟩ := K
      refine v_iinc dX3_clashes_134 rfl o8 ?_
      show V w 2 mX3_clashes 137 [some (vR 84), some (vI ((a : Nat) : Int)), some (vI ((b : Nat) : Int)), none, some (vI ((o + 1 : Nat) : Int))] [] S J Q
      refine v_goto 75 dX3_clashes_137 (by decide) ?_
      exact K

def CsAtX (J : Jm) (st : Option ClT) : Prop := match st with
  | none => J 84 17 = 1000
  | some t => (J 84 17 = t.1 ∧ t.1 < 1000) ∧ J 84 13 = t.2.1 ∧ J 84 14 = t.2.2.1 ∧ J 84 15 = t.2.2.2.1 ∧ J 84 16 = t.2.2.2.2
theorem CsAtX.le {J : Jm} {st : Option ClT} (h : CsAtX J st) : J 84 17 ≤ 1000 := by
  cases st with
  | none => exact Int.le_of_eq h
  | some t => have := h.1; omega
theorem xcU_fr {J : Jm} {a b kind sort its : Int} {x k : Nat} (h : ¬ (x = 84 ∧ 13 ≤ k ∧ k ≤ 17)) : xcU J a b kind sort its x k = J x k := by
  unfold xcU
  rw [up_ne (fun q => h ⟨q.1, by omega, by omega⟩), up_ne (fun q => h ⟨q.1, by omega, by omega⟩), up_ne (fun q => h ⟨q.1, by omega, by omega⟩), up_ne (fun q => h ⟨q.1, by omega, by omega⟩), up_ne (fun q => h ⟨q.1, by omega, by omega⟩)]
theorem xc_no {J : Jm} {st : Option ClT} (h : CsAtX J st) {a b kind sort : Nat} {its : Option Nat} {z : Int} (h2 : ∀ n, its = some n → z = n ∧ n < 1000) (hz : J 84 17 ≤ z) : CsAtX J (cl1 a b kind sort its st) := by
  cases its with
  | none => exact h
  | some n =>
    have q := h2 n rfl
    unfold cl1
    cases st with
    | none =>
      have h0 : J 84 17 = 1000 := h
      exfalso; omega
    | some t =>
      have h0 := h.1
      dsimp only
      rw [if_neg (by omega)]
      exact h
theorem xc_yes {J : Jm} {st : Option ClT} (h : CsAtX J st) {a b kind sort : Nat} {its : Option Nat} {z : Int} (h1 : its = none → 1000 ≤ z) (h2 : ∀ n, its = some n → z = n ∧ n < 1000) (hz : ¬ J 84 17 ≤ z) : CsAtX (xcU J (a : Int) (b : Int) (kind : Int) (sort : Int) z) (cl1 a b kind sort its st) := by
  cases its with
  | none =>
    have := h1 rfl
    have := h.le
    exfalso; omega
  | some n =>
    obtain ⟨rfl, q⟩ := h2 n rfl
    have up5 : CsAtX (xcU J (a : Int) (b : Int) (kind : Int) (sort : Int) (n : Int)) (some (n, a, b, kind, sort)) := by
      unfold xcU
      refine ⟨⟨?_, q⟩, ?_, ?_, ?_, ?_⟩
      all_goals simp [up]
    unfold cl1
    cases st with
    | none => exact up5
    | some t =>
      have h0 := h.1
      dsimp only
      rw [if_pos (by omega)]
      exact up5
def FXc (J J' : Jm) : Prop := ∀ x k, x ≠ 283 → ¬ (x = 84 ∧ 13 ≤ k ∧ k ≤ 17) → J' x k = J x k
theorem oX_n {x : Option Nat} (h : x = none) : oX x = 1000 := by rw [h]; rfl
theorem oX_s {x : Option Nat} {n : Nat} (h : x = some n) : oX x = (n : Int) := by rw [h]; rfl
theorem oX_0 (x : Option Nat) : 0 ≤ oX x := by
  cases x with
  | none => show (0 : Int) ≤ 1000; decide
  | some n => show (0 : Int) ≤ (n : Int); omega
theorem s_xclashes {w : Wd} {S : Sh} {J : Jm} {Q : Out → Sh → Jm → Prop} (hL : Lay S) (D : Nat → Nat → Nat → Option Nat) (P : Nat → Nat → Nat → Bool) (h1 : ∀ q : Nat, q < 3200 → J 281 q = 0 ∨ J 281 q = 1) (h2 : ∀ q : Nat, q < 3200 → J 282 q = 0 ∨ J 282 q = 1) (hD : ∀ o a b, o < 2 → a < 40 → b < 40 → dO (xkE J o) a b = D o a b) (hP : ∀ o a b, o < 2 → a < 40 → b < 40 → (P o a b = true ↔ ¬ J 282 (1600 * o + 40 * a + b) = 0)) (K : ∀ J', FXc J J' → (∀ o a b, o < 2 → a < 40 → b < 40 → J' 283 (1600 * o + 40 * a + b) = oX (D o a b)) → CsAtX J' (clM D P 40) → Q (.inl (some (vI (isS (clM D P 40))))) S J') : V w 2 mX3_clashes 0 (ent mX3_clashes [vR 84]) [] S J Q := by
  refine gX3_clashes_0 hL ⟨h1, fun J1 hp => ?_⟩
  have hlt : ∀ o a b n, o < 2 → a < 40 → b < 40 → D o a b = some n → n < 40 := fun o a b n ho ha hb e => dO_lt (E := xkE J o) (fun u v q => ⟨q.1, q.2.1⟩) ha hb (by rw [hD o a b ho ha hb]; exact e)
  have far : ∀ J2 : Jm, (∀ x k, ¬ (x = 84 ∧ 13 ≤ k ∧ k ≤ 17) → J2 x k = J1 x k) → ∀ o a b, o < 2 → a < 40 → b < 40 → J2 283 (1600 * o + 40 * a + b) = oX (D o a b) := fun J2 f2 o a b ho ha hb => by rw [f2 _ _ (by omega), hp.2 o a b ho ha hb, hD o a b ho ha hb]
  have par : ∀ J2 : Jm, (∀ x k, ¬ (x = 84 ∧ 13 ≤ k ∧ k ≤ 17) → J2 x k = J1 x k) → ∀ q, J2 282 q = J 282 q := fun J2 f2 q => by rw [f2 _ _ (by omega), hp.1 _ _ (by decide)]
  have rows : ∀ (m a : Nat) (J3 : Jm), a + m = 40 → (∀ x k, ¬ (x = 84 ∧ 13 ≤ k ∧ k ≤ 17) → J3 x k = J1 x k) → CsAtX J3 (clM D P a) → V w 2 mX3_clashes 13 [some (vR 84), some (vI (a : Int)), none, none, none] [] S J3 Q := by
    intro m
    induction m with
    | zero =>
      intro a J3 ha f3 c3
      obtain rfl : a = 40 := by omega
      have fin := K J3 (fun x k q1 q2 => by rw [f3 x k q2, hp.1 x k q1]) (far J3 f3) c3
      refine gX3_clashes_13 (J := J3) hL 40 (br_y (by omega) ?_)
      revert c3 fin
      generalize clM D P 40 = st
      intro c3 fin
      cases st with
      | none =>
        have h0 : J3 84 17 = 1000 := c3
        exact br_y (by omega) fin
      | some t =>
        have h0 := c3.1
        exact br_n (by omega) fin
    | succ m ih =>
      intro a J3 ha f3 c3
      refine gX3_clashes_13 (J := J3) hL a (br_n (by omega) ?_)
      have cols : ∀ (v b : Nat) (J4 : Jm), b + v = 40 → a < b → (∀ x k, ¬ (x = 84 ∧ 13 ≤ k ∧ k ≤ 17) → J4 x k = J1 x k) → CsAtX J4 (clR D P a (clM D P a) (b - (a + 1))) → V w 2 mX3_clashes 23 [some (vR 84), some (vI (a : Int)), some (vI (b : Int)), none, none] [] S J4 Q := by
        intro v
        induction v with
        | zero =>
          intro b J4 hb hab f4 c4
          obtain rfl : b = 40 := by omega
          refine gX3_clashes_23 (J := J4) hL a 40 (br_y (by omega) ?_)
          exact ih (a + 1) J4 (by omega) f4 c4
        | succ v ihv =>
          intro b J4 hb hab f4 c4
          have nxt : ∀ (J5 : Jm), (∀ x k, ¬ (x = 84 ∧ 13 ≤ k ∧ k ≤ 17) → J5 x k = J1 x k) → CsAtX J5 (clP D P a b (clR D P a (clM D P a) (b - (a + 1)))) → V w 2 mX3_clashes 75 [some (vR 84), some (vI (a : Int)), some (vI (b : Int)), none, some (vI ((2 : Nat) : Int))] [] S J5 Q := by
            intro J5 f5 c5
            refine gX3_clashes_75 (J := J5) hL a b 2 (br_y (by omega) ?_)
            refine ihv (b + 1) J5 (by omega) (by omega) f5 ?_
            rw [show b + 1 - (a + 1) = (b - (a + 1)) + 1 by omega, clR, show a + 1 + (b - (a + 1)) = b by omega]
            exact c5
          have one : ∀ (o : Nat) (J5 : Jm) (st : Option ClT), o < 2 → (∀ x k, ¬ (x = 84 ∧ 13 ≤ k ∧ k ≤ 17) → J5 x k = J1 x k) → CsAtX J5 st → (∀ J6 : Jm, (∀ x k, ¬ (x = 84 ∧ 13 ≤ k ∧ k ≤ 17) → J6 x k = J1 x k) → CsAtX J6 (cl1 a b 2 o (if P o a b = true then D o a b else none) st) → V w 2 mX3_clashes 75 [some (vR 84), some (vI (a : Int)), some (vI (b : Int)), none, some (vI ((o + 1 : Nat) : Int))] [] S J6 Q) → V w 2 mX3_clashes 75 [some (vR 84), some (vI (a : Int)), some (vI (b : Int)), none, some (vI (o : Int))] [] S J5 Q := by
            intro o J5 st ho f5 c5 KK
            refine gX3_clashes_75 (J := J5) hL a b o (br_n (by omega) ?_)
            have hf := far J5 f5 o a b ho (by omega) (by omega)
            have hpp := hP o a b ho (by omega) (by omega)
            rw [show (40 * (40 * (o : Int) + (a : Int)) + (b : Int)).toNat = 1600 * o + 40 * a + b by omega, hf]
            simp only [par J5 f5]
            refine ⟨⟨by omega, by omega, by omega⟩, h2, br_i (fun c1 => ?_) (fun c1 => ?_)⟩
            · rw [if_pos (hpp.mpr c1)] at KK
              refine ⟨by omega, by omega, br_i (fun c2 => ?_) (fun c2 J6 e6 => ?_)⟩
              · exact KK J5 f5 (xc_no c5 (fun n e => ⟨oX_s e, by have := hlt o a b n ho (by omega) (by omega) e; omega⟩) c2)
              · subst e6
                exact KK _ (fun x k q => by rw [xcU_fr q]; exact f5 x k q) (xc_yes c5 (fun e => by rw [oX_n e]; exact Int.le_refl _) (fun n e => ⟨oX_s e, by have := hlt o a b n ho (by omega) (by omega) e; omega⟩) c2)
            · rw [if_neg (fun q => c1 (hpp.mp q))] at KK
              exact KK J5 f5 c5
          have both : ∀ (J5 : Jm), (∀ x k, ¬ (x = 84 ∧ 13 ≤ k ∧ k ≤ 17) → J5 x k = J1 x k) → CsAtX J5 (cl1 a b 1 0 (o2 (D 0 a b) (D 1 a b)) (clR D P a (clM D P a) (b - (a + 1)))) → V w 2 mX3_clashes 75 [some (vR 84), some (vI (a : Int)), some (vI (b : Int)), none, some (vI ((0 : Nat) : Int))] [] S J5 Q :=
            fun J5 f5 c5 => one 0 J5 _ (by decide) f5 c5 (fun J6 f6 c6 => one 1 J6 _ (by decide) f6 c6 nxt)
          have e0 := far J4 f4 0 a b (by decide) (by omega) (by omega)
          have e1 := far J4 f4 1 a b (by decide) (by omega) (by omega)
          refine gX3_clashes_23 (J := J4) hL a b (br_n (by omega) ?_)
          rw [show (40 * (40 * (0 : Int) + (a : Int)) + (b : Int)).toNat = 1600 * 0 + 40 * a + b by omega, show (40 * (40 * (1 : Int) + (a : Int)) + (b : Int)).toNat = 1600 * 1 + 40 * a + b by omega, e0, e1]
          have q1 : o2 (D 0 a b) (D 1 a b) = none → 1000 ≤ oX (D 0 a b) + oX (D 1 a b) := by
            have z0 := oX_0 (D 0 a b)
            have z1 := oX_0 (D 1 a b)
            intro e
            cases x0 : D 0 a b with
            | none => rw [oX_n x0] at z0; rw [oX_n rfl]; omega
            | some n =>
              cases x1 : D 1 a b with
              | none => rw [oX_n rfl, oX_s rfl]; omega
              | some m => rw [x0, x1] at e; cases e
          have q2 : ∀ n, o2 (D 0 a b) (D 1 a b) = some n → oX (D 0 a b) + oX (D 1 a b) = (n : Int) ∧ n < 1000 := by
            intro n e
            have l0 := hlt 0 a b
            have l1 := hlt 1 a b
            cases x0 : D 0 a b with
            | none => rw [x0] at e; cases e
            | some n0 =>
              cases x1 : D 1 a b with
              | none => rw [x0, x1] at e; cases e
              | some n1 =>
                rw [x0, x1] at e
                cases e
                have := l0 n0 (by decide) (by omega) (by omega) x0
                have := l1 n1 (by decide) (by omega) (by omega) x1
                rw [oX_s rfl, oX_s rfl]
                omega
          have b0 := oX_0 (D 0 a b)
          have b1 := oX_0 (D 1 a b)
          have bb0 : oX (D 0 a b) ≤ 1000 := by
            cases x0 : D 0 a b with
            | none => rw [oX_n rfl]; omega
            | some n => have := hlt 0 a b n (by decide) (by omega) (by omega) x0; rw [oX_s rfl]; omega
          have bb1 : oX (D 1 a b) ≤ 1000 := by
            cases x0 : D 1 a b with
            | none => rw [oX_n rfl]; omega
            | some n => have := hlt 1 a b n (by decide) (by omega) (by omega) x0; rw [oX_s rfl]; omega
          refine ⟨⟨by omega, by omega, by omega⟩, ?_⟩
          (repeat' (first | ((with_reducible refine And.intro ?_ ?_); omega)))
          refine ⟨⟨by omega, by omega, by omega⟩, ?_⟩
          (repeat' (first | ((with_reducible refine And.intro ?_ ?_); omega)))
          refine br_i (fun c1 => ?_) (fun c1 J5 e5 => ?_)
          · exact both J4 f4 (xc_no c4 q2 c1)
          · subst e5
            exact both _ (fun x k q => by rw [xcU_fr q]; exact f4 x k q) (xc_yes c4 q1 q2 c1)
      exact cols (39 - a) (a + 1) J3 (by omega) (by omega) f3 (by rw [Nat.sub_self]; exact c3)
  refine rows 40 0 _ (by omega) (fun x k q => up_ne (by omega)) ?_
  show up J1 84 17 1000 84 17 = 1000
  exact up_self
