/-! GridRoom: how far (Floyd and Warshall) -/
set_option maxRecDepth 100000

/-- b is reached from a by n steps, all between being less than m -/
def RM (E : Nat → Nat → Prop) (m : Nat) : Nat → Nat → Nat → Prop
  | 0, a, b => a = b
  | n + 1, a, b => ∃ c, RM E m n a c ∧ E c b ∧ (n = 0 ∨ c < m)
theorem RM.up {E : Nat → Nat → Prop} {m : Nat} : ∀ {n a b : Nat}, RM E (m + 1) n a b → RM E m n a b ∨ ∃ n1 n2, n1 + n2 ≤ n ∧ RM E m n1 a m ∧ RM E m n2 m b
  | 0, _, _, h => Or.inl h
  | n + 1, a, b, ⟨c, h1, h2, h3⟩ => by
    rcases RM.up h1 with q | ⟨n1, n2, q1, q2, q3⟩
    · by_cases e : n = 0 ∨ c < m
      · exact Or.inl ⟨c, q, h2, e⟩
      · obtain rfl : c = m := by omega
        exact Or.inr ⟨n, 1, by omega, q, c, rfl, h2, Or.inl rfl⟩
    · by_cases e : n2 = 0 ∨ c < m
      · exact Or.inr ⟨n1, n2 + 1, by omega, q2, c, q3, h2, e⟩
      · obtain rfl : c = m := by omega
        exact Or.inr ⟨n1, 1, by omega, q2, c, rfl, h2, Or.inl rfl⟩
theorem RM.all {E : Nat → Nat → Prop} (hE : ∀ u v, E u v → u < 40 ∧ v < 40) : ∀ {n a b : Nat}, RN E n a b → RM E 40 n a b
  | 0, _, _, h => h
  | n + 1, a, b, ⟨c, h1, h2⟩ => ⟨c, RM.all hE h1, h2, Or.inr (hE c b h2).1⟩
theorem RN_app {E : Nat → Nat → Prop} {a c : Nat} {n1 : Nat} (h : RN E n1 a c) : ∀ {n2 b : Nat}, RN E n2 c b → RN E (n1 + n2) a b
  | 0, _, h2 => by cases h2; exact h
  | n2 + 1, b, ⟨d, h1, h2⟩ => ⟨d, RN_app h h1, h2⟩
/-- a table of distances there is -/
theorem far_ex {E : Nat → Nat → Prop} (hE : ∀ u v, E u v → u < 40 ∧ v < 40) {a : Nat} (ha : a < 40) : ∃ f, FarOk E a f := by
  have key : ∀ (M : Nat) (f : Nat → Int), sumL (fun s => (f s).toNat) 40 < M → FarW E a f → ∃ g, FarOk E a g := by
    intro M
    induction M with
    | zero => intro f h; exact absurd h (by omega)
    | succ M ih =>
      intro f hM hW
      by_cases h : ∃ u v, E u v ∧ f u + 1 < f v
      · obtain ⟨u, v, h1, h2⟩ := h
        have hr := hE u v h1
        have hu0 : 0 ≤ f u := by
          rcases hW.2 u hr.1 with q | ⟨n, q, -⟩ <;> omega
        refine ih _ ?_ (hW.step hr.1 hr.2 h1 h2)
        have h9 := (sumL_lt (L := fun s => (f s).toNat) (L' := fun s => (if s = v then f u + 1 else f s).toNat) (u := v) (by show (if v = v then f u + 1 else f v).toNat < (f v).toNat; rw [if_pos rfl]; omega) (fun s hs => by show (if s = v then f u + 1 else f s).toNat = (f s).toNat; rw [if_neg hs]) 40).1 hr.2
        omega
      · exact ⟨f, hW.fin hE ha (fun u v he => Int.not_lt.mp (fun q => h ⟨u, v, he, q⟩))⟩
  exact key _ _ (Nat.lt_succ_self _) (FarW.start E ha)
theorem dO_lt {E : Nat → Nat → Prop} (hE : ∀ u v, E u v → u < 40 ∧ v < 40) {a b n : Nat} (ha : a < 40) (hb : b < 40) (h : dO E a b = some n) : n < 40 := by
  obtain ⟨f, hf⟩ := far_ex hE ha
  exact (hf.d hb).2 n h
theorem gX3_reaches_0 {w : Wd} {S : Sh} {J : Jm} {Q : Out → Sh → Jm → Prop} (hL : Lay S) 
    (K : V w 1 mX3_reaches 2 [some (vR 84), some (vI 0), none, none, none] [] S J Q) :
    V w 1 mX3_reaches 0 (ent mX3_reaches [vR 84]) [] S J Q := by
  show V w 1 mX3_reaches 0 [some (vR 84), none, none, none, none] [] S J Q
  refine v_shp (fun hs0 => ?_)
  refine v_iconst dX3_reaches_0 (in_lit (by decide)) ?_
  refine v_istore_n dX3_reaches_1 (Nat.le_of_ble_eq_true rfl) ?_
  show V w 1 mX3_reaches 2 [some (vR 84), some (vI 0), none, none, none] [] S J Q
  exact K
theorem gX3_reaches_2 {w : Wd} {S : Sh} {J : Jm} {Q : Out → Sh → Jm → Prop} (hL : Lay S) (o : Nat)
    (K : Br (2 ≤ ((o : Nat) : Int)) (Q (.inl none) S J) (V w 1 mX3_reaches 9 [some (vR 84), some (vI ((o : Nat) : Int)), some (vI 0), none, none] [] S J Q)) :
    V w 1 mX3_reaches 2 [some (vR 84), some (vI ((o : Nat) : Int)), none, none, none] [] S J Q := by
  refine v_shp (fun hs0 => ?_)
  refine v_iload_n dX3_reaches_2 rfl ?_
  refine v_iconst dX3_reaches_3 (in_lit (by decide)) ?_
  obtain ⟨K1, K2⟩ := K
  refine v_icmp_ge 183 dX3_reaches_4 (by decide) (fun c1 => ?_) (fun c1 => ?_)
  · have K := K1 c1
    exact v_vret dX3_reaches_183 rfl K
  · have K := K2 c1
    refine v_iconst dX3_reaches_7 (in_lit (by decide)) ?_
    refine v_istore_n dX3_reaches_8 (Nat.le_of_ble_eq_true rfl) ?_
    show V w 1 mX3_reaches 9 [some (vR 84), some (vI ((o : Nat) : Int)), some (vI 0), none, none] [] S J Q
    exact K
theorem gX3_reaches_9 {w : Wd} {S : Sh} {J : Jm} {Q : Out → Sh → Jm → Prop} (hL : Lay S) (o : Nat) (a : Nat)
    (K : Br (40 ≤ ((a : Nat) : Int)) (V w 1 mX3_reaches 80 [some (vR 84), some (vI ((o : Nat) : Int)), some (vI 0), none, none] [] S J Q) (V w 1 mX3_reaches 17 [some (vR 84), some (vI ((o : Nat) : Int)), some (vI ((a : Nat) : Int)), some (vI 0), none] [] S J Q)) :
    V w 1 mX3_reaches 9 [some (vR 84), some (vI ((o : Nat) : Int)), some (vI ((a : Nat) : Int)), none, none] [] S J Q := by
  refine v_shp (fun hs0 => ?_)
  refine v_iload_n dX3_reaches_9 rfl ?_
  refine v_bipush dX3_reaches_10 (by decide) (in_lit (by decide)) ?_
  obtain ⟨K1, K2⟩ := K
  refine v_icmp_ge 78 dX3_reaches_12 (by decide) (fun c1 => ?_) (fun c1 => ?_)
  · have K := K1 c1
    refine v_iconst dX3_reaches_78 (in_lit (by decide)) ?_
    refine v_istore_n dX3_reaches_79 (Nat.le_of_ble_eq_true rfl) ?_
    show V w 1 mX3_reaches 80 [some (vR 84), some (vI ((o : Nat) : Int)), some (vI 0), none, none] [] S J Q
    exact K
  · have K := K2 c1
    refine v_iconst dX3_reaches_15 (in_lit (by decide)) ?_
    refine v_istore_n dX3_reaches_16 (Nat.le_of_ble_eq_true rfl) ?_
    show V w 1 mX3_reaches 17 [some (vR 84), some (vI ((o : Nat) : Int)), some (vI ((a : Nat) : Int)), some (vI 0), none] [] S J Q
    exact K
theorem gX3_reaches_17 {w : Wd} {S : Sh} {J : Jm} {Q : Out → Sh → Jm → Prop} (hL : Lay S) (o : Nat) (a : Nat) (b : Nat)
    (K : Br (40 ≤ ((b : Nat) : Int)) ((-2147483648 ≤ ((a : Nat) : Int) + 1 ∧ ((a : Nat) : Int) + 1 ≤ 2147483647) ∧ V w 1 mX3_reaches 9 [some (vR 84), some (vI ((o : Nat) : Int)), some (vI ((a + 1 : Nat) : Int)), none, none] [] S J Q) (((0 ≤ ((o : Nat) : Int) ∧ ((o : Nat) : Int) < 2) ∧ (0 ≤ ((a : Nat) : Int) ∧ ((a : Nat) : Int) < 40) ∧ (0 ≤ ((b : Nat) : Int) ∧ ((b : Nat) : Int) < 40)) ∧ Br (((a : Nat) : Int) = ((b : Nat) : Int)) ((0 ≤ 40 * (40 * ((o : Nat) : Int) + ((a : Nat) : Int)) + ((b : Nat) : Int)) ∧ (40 * (40 * ((o : Nat) : Int) + ((a : Nat) : Int)) + ((b : Nat) : Int) < 3200) ∧ (-2147483648 ≤ ((b : Nat) : Int) + 1 ∧ ((b : Nat) : Int) + 1 ≤ 2147483647) ∧ V w 1 mX3_reaches 17 [some (vR 84), some (vI ((o : Nat) : Int)), some (vI ((a : Nat) : Int)), some (vI ((b + 1 : Nat) : Int)), none] [] S (up J 283 (40 * (40 * ((o : Nat) : Int) + ((a : Nat) : Int)) + ((b : Nat) : Int)).toNat 0) Q) ((0 ≤ 40 * (40 * ((o : Nat) : Int) + ((a : Nat) : Int)) + ((b : Nat) : Int)) ∧ (40 * (40 * ((o : Nat) : Int) + ((a : Nat) : Int)) + ((b : Nat) : Int) < 3200) ∧ Br (J 281 (40 * (40 * ((o : Nat) : Int) + ((a : Nat) : Int)) + ((b : Nat) : Int)).toNat = 0) ((-2147483648 ≤ ((b : Nat) : Int) + 1 ∧ ((b : Nat) : Int) + 1 ≤ 2147483647) ∧ V w 1 mX3_reaches 17 [some (vR 84), some (vI ((o : Nat) : Int)), some (vI ((a : Nat) : Int)), some (vI ((b + 1 : Nat) : Int)), none] [] S (up J 283 (40 * (40 * ((o : Nat) : Int) + ((a : Nat) : Int)) + ((b : Nat) : Int)).toNat 1000) Q) ((-2147483648 ≤ ((b : Nat) : Int) + 1 ∧ ((b : Nat) : Int) + 1 ≤ 2147483647) ∧ V w 1 mX3_reaches 17 [some (vR 84), some (vI ((o : Nat) : Int)), some (vI ((a : Nat) : Int)), some (vI ((b + 1 : Nat) : Int)), none] [] S (up J 283 (40 * (40 * ((o : Nat) : Int) + ((a : Nat) : Int)) + ((b : Nat) : Int)).toNat 1) Q)))) :
    V w 1 mX3_reaches 17 [some (vR 84), some (vI ((o : Nat) : Int)), some (vI ((a : Nat) : Int)), some (vI ((b : Nat) : Int)), none] [] S J Q := by
  refine v_shp (fun hs0 => ?_)
  refine v_iload_n dX3_reaches_17 rfl ?_
  refine v_bipush dX3_reaches_18 (by decide) (in_lit (by decide)) ?_
  obtain ⟨K1, K2⟩ := K
  refine v_icmp_ge 72 dX3_reaches_20 (by decide) (fun c1 => ?_) (fun c1 => ?_)
  · have K := K1 c1
    obtain ⟨o1, K⟩ := K
    refine v_iinc dX3_reaches_72 rfl o1 ?_
    show V w 1 mX3_reaches 75 [some (vR 84), some (vI ((o : Nat) : Int)), some (vI ((a + 1 : Nat) : Int)), some (vI ((b : Nat) : Int)), none] [] S J Q
    refine v_goto 9 dX3_reaches_75 (by decide) ?_
    exact v_forget (fg_some (fg_some (fg_some (fg_none (fg_none fg_nil))))) K
  · have K := K2 c1
    refine v_aload_n dX3_reaches_23 rfl ?_
    refine v_getR dX3_reaches_24 frX3_37_3 rfl (L_84 hL).1 (LR_84_9 hL) (Or.inl rfl) ?_
    refine v_aload_n dX3_reaches_27 rfl ?_
    refine v_iload_n dX3_reaches_28 rfl ?_
    refine v_iload_n dX3_reaches_29 rfl ?_
    refine v_iload_n dX3_reaches_30 rfl ?_
    refine v_callV (d' := 0) (rest := [vR 283]) [vI ((o : Nat) : Int), vI ((a : Nat) : Int), vI ((b : Nat) : Int)] dX3_reaches_31 vrX3_159_3 (L_84 hL).1 rfl rfl (one_I (one_I (one_I one_nil))) (Nat.le_of_ble_eq_true rfl) (Nat.le_of_ble_eq_true rfl) (Nat.le_of_ble_eq_true rfl) ?_
    obtain ⟨o2, K⟩ := K
    refine s_at hL ((o : Nat) : Int) ((a : Nat) : Int) ((b : Nat) : Int) o2 ?_
    show V w 1 mX3_reaches 34 [some (vR 84), some (vI ((o : Nat) : Int)), some (vI ((a : Nat) : Int)), some (vI ((b : Nat) : Int)), none] [vI (40 * (40 * ((o : Nat) : Int) + ((a : Nat) : Int)) + ((b : Nat) : Int)), vR 283] S J Q
    refine v_iload_n dX3_reaches_34 rfl ?_
    refine v_iload_n dX3_reaches_35 rfl ?_
    obtain ⟨K1, K2⟩ := K
    refine v_icmp_ne 43 dX3_reaches_36 (by decide) (fun c2 => ?_) (fun c2 => ?_)
    · have K := K2 c2
      refine v_aload_n dX3_reaches_43 rfl ?_
      refine v_getR dX3_reaches_44 frX3_30_3 rfl (L_84 hL).1 (LR_84_7 hL) (Or.inl rfl) ?_
      refine v_aload_n dX3_reaches_47 rfl ?_
      refine v_iload_n dX3_reaches_48 rfl ?_
      refine v_iload_n dX3_reaches_49 rfl ?_
      refine v_iload_n dX3_reaches_50 rfl ?_
      refine v_callV (d' := 0) (rest := [vR 281, vI (40 * (40 * ((o : Nat) : Int) + ((a : Nat) : Int)) + ((b : Nat) : Int)), vR 283]) [vI ((o : Nat) : Int), vI ((a : Nat) : Int), vI ((b : Nat) : Int)] dX3_reaches_51 vrX3_159_3 (L_84 hL).1 rfl rfl (one_I (one_I (one_I one_nil))) (Nat.le_of_ble_eq_true rfl) (Nat.le_of_ble_eq_true rfl) (Nat.le_of_ble_eq_true rfl) ?_
      refine s_at hL ((o : Nat) : Int) ((a : Nat) : Int) ((b : Nat) : Int) o2 ?_
      show V w 1 mX3_reaches 54 [some (vR 84), some (vI ((o : Nat) : Int)), some (vI ((a : Nat) : Int)), some (vI ((b : Nat) : Int)), none] [vI (40 * (40 * ((o : Nat) : Int) + ((a : Nat) : Int)) + ((b : Nat) : Int)), vR 281, vI (40 * (40 * ((o : Nat) : Int) + ((a : Nat) : Int)) + ((b : Nat) : Int)), vR 283] S J Q
      obtain ⟨o3, K⟩ := K
      obtain ⟨o4, K⟩ := K
      refine ld_281 dX3_reaches_54 hL o3 o4 ?_
      obtain ⟨K1, K2⟩ := K
      refine v_if_eq 62 dX3_reaches_55 (by decide) (fun c3 => ?_) (fun c3 => ?_)
      · have K := K1 c3
        refine v_sipush dX3_reaches_62 (by decide) (in_lit (by decide)) ?_
        refine st_283 dX3_reaches_65 hL o3 o4 ?_
        show V w 1 mX3_reaches 66 [some (vR 84), some (vI ((o : Nat) : Int)), some (vI ((a : Nat) : Int)), some (vI ((b : Nat) : Int)), none] [] S (up J 283 (40 * (40 * ((o : Nat) : Int) + ((a : Nat) : Int)) + ((b : Nat) : Int)).toNat 1000) Q
        obtain ⟨o5, K⟩ := K
        refine v_iinc dX3_reaches_66 rfl o5 ?_
        show V w 1 mX3_reaches 69 [some (vR 84), some (vI ((o : Nat) : Int)), some (vI ((a : Nat) : Int)), some (vI ((b + 1 : Nat) : Int)), none] [] S (up J 283 (40 * (40 * ((o : Nat) : Int) + ((a : Nat) : Int)) + ((b : Nat) : Int)).toNat 1000) Q
        refine v_goto 17 dX3_reaches_69 (by decide) ?_
        exact K
      · have K := K2 c3
        refine v_iconst dX3_reaches_58 (in_lit (by decide)) ?_
        refine v_goto 65 dX3_reaches_59 (by decide) ?_
        refine st_283 dX3_reaches_65 hL o3 o4 ?_
        show V w 1 mX3_reaches 66 [some (vR 84), some (vI ((o : Nat) : Int)), some (vI ((a : Nat) : Int)), some (vI ((b : Nat) : Int)), none] [] S (up J 283 (40 * (40 * ((o : Nat) : Int) + ((a : Nat) : Int)) + ((b : Nat) : Int)).toNat 1) Q
        obtain ⟨o6, K⟩ := K
        refine v_iinc dX3_reaches_66 rfl o6 ?_
        show V w 1 mX3_reaches 69 [some (vR 84), some (vI ((o : Nat) : Int)), some (vI ((a : Nat) : Int)), some (vI ((b + 1 : Nat) : Int)), none] [] S (up J 283 (40 * (40 * ((o : Nat) : Int) + ((a : Nat) : Int)) + ((b : Nat) : Int)).toNat 1) Q
        refine v_goto 17 dX3_reaches_69 (by decide) ?_
        exact K
    · have K := K1 c2
      refine v_iconst dX3_reaches_39 (in_lit (by decide)) ?_
      refine v_goto 65 dX3_reaches_40 (by decide) ?_
      obtain ⟨o7, K⟩ := K
      obtain ⟨o8, K⟩ := K
      refine st_283 dX3_reaches_65 hL o7 o8 ?_
      show V w 1 mX3_reaches 66 [some (vR 84), some (vI ((o : Nat) : Int)), some (vI ((a : Nat) : Int)), some (vI ((b : Nat) : Int)), none] [] S (up J 283 (40 * (40 * ((o : Nat) : Int) + ((a : Nat) : Int)) + ((b : Nat) : Int)).toNat 0) Q
      obtain ⟨o9, K⟩ := K
      refine v_iinc dX3_reaches_66 rfl o9 ?_
      show V w 1 mX3_reaches 69 [some (vR 84), some (vI ((o : Nat) : Int)), some (vI ((a : Nat) : Int)), some (vI ((b + 1 : Nat) : Int)), none] [] S (up J 283 (40 * (40 * ((o : Nat) : Int) + ((a : Nat) : Int)) + ((b : Nat) : Int)).toNat 0) Q
      refine v_goto 17 dX3_reaches_69 (by decide) ?_
      exact K
theorem gX3_reaches_80 {w : Wd} {S : Sh} {J : Jm} {Q : Out → Sh → Jm → Prop} (hL : Lay S) (o : Nat) (m : Nat)
    (K : Br (40 ≤ ((m : Nat) : Int)) ((-2147483648 ≤ ((o : Nat) : Int) + 1 ∧ ((o : Nat) : Int) + 1 ≤ 2147483647) ∧ V w 1 mX3_reaches 2 [some (vR 84), some (vI ((o + 1 : Nat) : Int)), none, none, none] [] S J Q) (V w 1 mX3_reaches 88 [some (vR 84), some (vI ((o : Nat) : Int)), some (vI ((m : Nat) : Int)), some (vI 0), none] [] S J Q)) :
    V w 1 mX3_reaches 80 [some (vR 84), some (vI ((o : Nat) : Int)), some (vI ((m : Nat) : Int)), none, none] [] S J Q := by
  refine v_shp (fun hs0 => ?_)
  refine v_iload_n dX3_reaches_80 rfl ?_
  refine v_bipush dX3_reaches_81 (by decide) (in_lit (by decide)) ?_
  obtain ⟨K1, K2⟩ := K
  refine v_icmp_ge 177 dX3_reaches_83 (by decide) (fun c1 => ?_) (fun c1 => ?_)
  · have K := K1 c1
    obtain ⟨o1, K⟩ := K
    refine v_iinc dX3_reaches_177 rfl o1 ?_
    show V w 1 mX3_reaches 180 [some (vR 84), some (vI ((o + 1 : Nat) : Int)), some (vI ((m : Nat) : Int)), none, none] [] S J Q
    refine v_goto 2 dX3_reaches_180 (by decide) ?_
    exact v_forget (fg_some (fg_some (fg_none (fg_none (fg_none fg_nil))))) K
  · have K := K2 c1
    refine v_iconst dX3_reaches_86 (in_lit (by decide)) ?_
    refine v_istore_n dX3_reaches_87 (Nat.le_of_ble_eq_true rfl) ?_
    show V w 1 mX3_reaches 88 [some (vR 84), some (vI ((o : Nat) : Int)), some (vI ((m : Nat) : Int)), some (vI 0), none] [] S J Q
    exact K
theorem gX3_reaches_88 {w : Wd} {S : Sh} {J : Jm} {Q : Out → Sh → Jm → Prop} (hL : Lay S) (o : Nat) (m : Nat) (a : Nat)
    (K : Br (40 ≤ ((a : Nat) : Int)) ((-2147483648 ≤ ((m : Nat) : Int) + 1 ∧ ((m : Nat) : Int) + 1 ≤ 2147483647) ∧ V w 1 mX3_reaches 80 [some (vR 84), some (vI ((o : Nat) : Int)), some (vI ((m + 1 : Nat) : Int)), none, none] [] S J Q) (V w 1 mX3_reaches 97 [some (vR 84), some (vI ((o : Nat) : Int)), some (vI ((m : Nat) : Int)), some (vI ((a : Nat) : Int)), some (vI 0)] [] S J Q)) :
    V w 1 mX3_reaches 88 [some (vR 84), some (vI ((o : Nat) : Int)), some (vI ((m : Nat) : Int)), some (vI ((a : Nat) : Int)), none] [] S J Q := by
  refine v_shp (fun hs0 => ?_)
  refine v_iload_n dX3_reaches_88 rfl ?_
  refine v_bipush dX3_reaches_89 (by decide) (in_lit (by decide)) ?_
  obtain ⟨K1, K2⟩ := K
  refine v_icmp_ge 171 dX3_reaches_91 (by decide) (fun c1 => ?_) (fun c1 => ?_)
  · have K := K1 c1
    obtain ⟨o1, K⟩ := K
    refine v_iinc dX3_reaches_171 rfl o1 ?_
    show V w 1 mX3_reaches 174 [some (vR 84), some (vI ((o : Nat) : Int)), some (vI ((m + 1 : Nat) : Int)), some (vI ((a : Nat) : Int)), none] [] S J Q
    refine v_goto 80 dX3_reaches_174 (by decide) ?_
    exact v_forget (fg_some (fg_some (fg_some (fg_none (fg_none fg_nil))))) K
  · have K := K2 c1
    refine v_iconst dX3_reaches_94 (in_lit (by decide)) ?_
    refine v_istore dX3_reaches_95 (Nat.le_of_ble_eq_true rfl) ?_
    show V w 1 mX3_reaches 97 [some (vR 84), some (vI ((o : Nat) : Int)), some (vI ((m : Nat) : Int)), some (vI ((a : Nat) : Int)), some (vI 0)] [] S J Q
    exact K
theorem gX3_reaches_97 {w : Wd} {S : Sh} {J : Jm} {Q : Out → Sh → Jm → Prop} (hL : Lay S) (o : Nat) (m : Nat) (a : Nat) (b : Nat)
    (K : Br (40 ≤ ((b : Nat) : Int)) ((-2147483648 ≤ ((a : Nat) : Int) + 1 ∧ ((a : Nat) : Int) + 1 ≤ 2147483647) ∧ V w 1 mX3_reaches 88 [some (vR 84), some (vI ((o : Nat) : Int)), some (vI ((m : Nat) : Int)), some (vI ((a + 1 : Nat) : Int)), none] [] S J Q) (((0 ≤ ((o : Nat) : Int) ∧ ((o : Nat) : Int) < 2) ∧ (0 ≤ ((a : Nat) : Int) ∧ ((a : Nat) : Int) < 40) ∧ (0 ≤ ((b : Nat) : Int) ∧ ((b : Nat) : Int) < 40)) ∧ (0 ≤ 40 * (40 * ((o : Nat) : Int) + ((a : Nat) : Int)) + ((b : Nat) : Int)) ∧ (40 * (40 * ((o : Nat) : Int) + ((a : Nat) : Int)) + ((b : Nat) : Int) < 3200) ∧ ((0 ≤ ((o : Nat) : Int) ∧ ((o : Nat) : Int) < 2) ∧ (0 ≤ ((a : Nat) : Int) ∧ ((a : Nat) : Int) < 40) ∧ (0 ≤ ((m : Nat) : Int) ∧ ((m : Nat) : Int) < 40)) ∧ (0 ≤ 40 * (40 * ((o : Nat) : Int) + ((a : Nat) : Int)) + ((m : Nat) : Int)) ∧ (40 * (40 * ((o : Nat) : Int) + ((a : Nat) : Int)) + ((m : Nat) : Int) < 3200) ∧ ((0 ≤ ((o : Nat) : Int) ∧ ((o : Nat) : Int) < 2) ∧ (0 ≤ ((m : Nat) : Int) ∧ ((m : Nat) : Int) < 40) ∧ (0 ≤ ((b : Nat) : Int) ∧ ((b : Nat) : Int) < 40)) ∧ (0 ≤ 40 * (40 * ((o : Nat) : Int) + ((m : Nat) : Int)) + ((b : Nat) : Int)) ∧ (40 * (40 * ((o : Nat) : Int) + ((m : Nat) : Int)) + ((b : Nat) : Int) < 3200) ∧ (-2147483648 ≤ (J 283 (40 * (40 * ((o : Nat) : Int) + ((a : Nat) : Int)) + ((m : Nat) : Int)).toNat) + (J 283 (40 * (40 * ((o : Nat) : Int) + ((m : Nat) : Int)) + ((b : Nat) : Int)).toNat) ∧ (J 283 (40 * (40 * ((o : Nat) : Int) + ((a : Nat) : Int)) + ((m : Nat) : Int)).toNat) + (J 283 (40 * (40 * ((o : Nat) : Int) + ((m : Nat) : Int)) + ((b : Nat) : Int)).toNat) ≤ 2147483647) ∧ (-2147483648 ≤ ((b : Nat) : Int) + 1 ∧ ((b : Nat) : Int) + 1 ≤ 2147483647) ∧ V w 1 mX3_reaches 97 [some (vR 84), some (vI ((o : Nat) : Int)), some (vI ((m : Nat) : Int)), some (vI ((a : Nat) : Int)), some (vI ((b + 1 : Nat) : Int))] [] S (up J 283 (40 * (40 * ((o : Nat) : Int) + ((a : Nat) : Int)) + ((b : Nat) : Int)).toNat (zmin (J 283 (40 * (40 * ((o : Nat) : Int) + ((a : Nat) : Int)) + ((b : Nat) : Int)).toNat) ((J 283 (40 * (40 * ((o : Nat) : Int) + ((a : Nat) : Int)) + ((m : Nat) : Int)).toNat) + (J 283 (40 * (40 * ((o : Nat) : Int) + ((m : Nat) : Int)) + ((b : Nat) : Int)).toNat)))) Q)) :
    V w 1 mX3_reaches 97 [some (vR 84), some (vI ((o : Nat) : Int)), some (vI ((m : Nat) : Int)), some (vI ((a : Nat) : Int)), some (vI ((b : Nat) : Int))] [] S J Q := by
  refine v_shp (fun hs0 => ?_)
  refine v_iload dX3_reaches_97 rfl ?_
  refine v_bipush dX3_reaches_99 (by decide) (in_lit (by decide)) ?_
  obtain ⟨K1, K2⟩ := K
  refine v_icmp_ge 165 dX3_reaches_101 (by decide) (fun c1 => ?_) (fun c1 => ?_)
  · have K := K1 c1
    obtain ⟨o1, K⟩ := K
    refine v_iinc dX3_reaches_165 rfl o1 ?_
    show V w 1 mX3_reaches 168 [some (vR 84), some (vI ((o : Nat) : Int)), some (vI ((m : Nat) : Int)), some (vI ((a + 1 : Nat) : Int)), some (vI ((b : Nat) : Int))] [] S J Q
    refine v_goto 88 dX3_reaches_168 (by decide) ?_
    exact v_forget (fg_some (fg_some (fg_some (fg_some (fg_none fg_nil))))) K
  · have K := K2 c1
    refine v_aload_n dX3_reaches_104 rfl ?_
    refine v_getR dX3_reaches_105 frX3_37_3 rfl (L_84 hL).1 (LR_84_9 hL) (Or.inl rfl) ?_
    refine v_aload_n dX3_reaches_108 rfl ?_
    refine v_iload_n dX3_reaches_109 rfl ?_
    refine v_iload_n dX3_reaches_110 rfl ?_
    refine v_iload dX3_reaches_111 rfl ?_
    refine v_callV (d' := 0) (rest := [vR 283]) [vI ((o : Nat) : Int), vI ((a : Nat) : Int), vI ((b : Nat) : Int)] dX3_reaches_113 vrX3_159_3 (L_84 hL).1 rfl rfl (one_I (one_I (one_I one_nil))) (Nat.le_of_ble_eq_true rfl) (Nat.le_of_ble_eq_true rfl) (Nat.le_of_ble_eq_true rfl) ?_
    obtain ⟨o2, K⟩ := K
    refine s_at hL ((o : Nat) : Int) ((a : Nat) : Int) ((b : Nat) : Int) o2 ?_
    show V w 1 mX3_reaches 116 [some (vR 84), some (vI ((o : Nat) : Int)), some (vI ((m : Nat) : Int)), some (vI ((a : Nat) : Int)), some (vI ((b : Nat) : Int))] [vI (40 * (40 * ((o : Nat) : Int) + ((a : Nat) : Int)) + ((b : Nat) : Int)), vR 283] S J Q
    refine v_aload_n dX3_reaches_116 rfl ?_
    refine v_getR dX3_reaches_117 frX3_37_3 rfl (L_84 hL).1 (LR_84_9 hL) (Or.inl rfl) ?_
    refine v_aload_n dX3_reaches_120 rfl ?_
    refine v_iload_n dX3_reaches_121 rfl ?_
    refine v_iload_n dX3_reaches_122 rfl ?_
    refine v_iload dX3_reaches_123 rfl ?_
    refine v_callV (d' := 0) (rest := [vR 283, vI (40 * (40 * ((o : Nat) : Int) + ((a : Nat) : Int)) + ((b : Nat) : Int)), vR 283]) [vI ((o : Nat) : Int), vI ((a : Nat) : Int), vI ((b : Nat) : Int)] dX3_reaches_125 vrX3_159_3 (L_84 hL).1 rfl rfl (one_I (one_I (one_I one_nil))) (Nat.le_of_ble_eq_true rfl) (Nat.le_of_ble_eq_true rfl) (Nat.le_of_ble_eq_true rfl) ?_
    refine s_at hL ((o : Nat) : Int) ((a : Nat) : Int) ((b : Nat) : Int) o2 ?_
    show V w 1 mX3_reaches 128 [some (vR 84), some (vI ((o : Nat) : Int)), some (vI ((m : Nat) : Int)), some (vI ((a : Nat) : Int)), some (vI ((b : Nat) : Int))] [vI (40 * (40 * ((o : Nat) : Int) + ((a : Nat) : Int)) + ((b : Nat) : Int)), vR 283, vI (40 * (40 * ((o : Nat) : Int) + ((a : Nat) : Int)) + ((b : Nat) : Int)), vR 283] S J Q
    obtain ⟨o3, K⟩ := K
    obtain ⟨o4, K⟩ := K
    refine ld_283 dX3_reaches_128 hL o3 o4 ?_
    refine v_aload_n dX3_reaches_129 rfl ?_
    refine v_getR dX3_reaches_130 frX3_37_3 rfl (L_84 hL).1 (LR_84_9 hL) (Or.inl rfl) ?_
    refine v_aload_n dX3_reaches_133 rfl ?_
    refine v_iload_n dX3_reaches_134 rfl ?_
    refine v_iload_n dX3_reaches_135 rfl ?_
    refine v_iload_n dX3_reaches_136 rfl ?_
    refine v_callV (d' := 0) (rest := [vR 283, vI (J 283 (40 * (40 * ((o : Nat) : Int) + ((a : Nat) : Int)) + ((b : Nat) : Int)).toNat), vI (40 * (40 * ((o : Nat) : Int) + ((a : Nat) : Int)) + ((b : Nat) : Int)), vR 283]) [vI ((o : Nat) : Int), vI ((a : Nat) : Int), vI ((m : Nat) : Int)] dX3_reaches_137 vrX3_159_3 (L_84 hL).1 rfl rfl (one_I (one_I (one_I one_nil))) (Nat.le_of_ble_eq_true rfl) (Nat.le_of_ble_eq_true rfl) (Nat.le_of_ble_eq_true rfl) ?_
    obtain ⟨o5, K⟩ := K
    refine s_at hL ((o : Nat) : Int) ((a : Nat) : Int) ((m : Nat) : Int) o5 ?_
    show V w 1 mX3_reaches 140 [some (vR 84), some (vI ((o : Nat) : Int)), some (vI ((m : Nat) : Int)), some (vI ((a : Nat) : Int)), some (vI ((b : Nat) : Int))] [vI (40 * (40 * ((o : Nat) : Int) + ((a : Nat) : Int)) + ((m : Nat) : Int)), vR 283, vI (J 283 (40 * (40 * ((o : Nat) : Int) + ((a : Nat) : Int)) + ((b : Nat) : Int)).toNat), vI (40 * (40 * ((o : Nat) : Int) + ((a : Nat) : Int)) + ((b : Nat) : Int)), vR 283] S J Q
    obtain ⟨o6, K⟩ := K
    obtain ⟨o7, K⟩ := K
    refine ld_283 dX3_reaches_140 hL o6 o7 ?_
    refine v_aload_n dX3_reaches_141 rfl ?_
    refine v_getR dX3_reaches_142 frX3_37_3 rfl (L_84 hL).1 (LR_84_9 hL) (Or.inl rfl) ?_
    refine v_aload_n dX3_reaches_145 rfl ?_
    refine v_iload_n dX3_reaches_146 rfl ?_
    refine v_iload_n dX3_reaches_147 rfl ?_
    refine v_iload dX3_reaches_148 rfl ?_
    refine v_callV (d' := 0) (rest := [vR 283, vI (J 283 (40 * (40 * ((o : Nat) : Int) + ((a : Nat) : Int)) + ((m : Nat) : Int)).toNat), vI (J 283 (40 * (40 * ((o : Nat) : Int) + ((a : Nat) : Int)) + ((b : Nat) : Int)).toNat), vI (40 * (40 * ((o : Nat) : Int) + ((a : Nat) : Int)) + ((b : Nat) : Int)), vR 283]) [vI ((o : Nat) : Int), vI ((m : Nat) : Int), vI ((b : Nat) : Int)] dX3_reaches_150 vrX3_159_3 (L_84 hL).1 rfl rfl (one_I (one_I (one_I one_nil))) (Nat.le_of_ble_eq_true rfl) (Nat.le_of_ble_eq_true rfl) (Nat.le_of_ble_eq_true rfl) ?_
    obtain ⟨o8, K⟩ := K
    refine s_at hL ((o : Nat) : Int) ((m : Nat) : Int) ((b : Nat) : Int) o8 ?_
    show V w 1 mX3_reaches 153 [some (vR 84), some (vI ((o : Nat) : Int)), some (vI ((m : Nat) : Int)), some (vI ((a : Nat) : Int)), some (vI ((b : Nat) : Int))] [vI (40 * (40 * ((o : Nat) : Int) + ((m : Nat) : Int)) + ((b : Nat) : Int)), vR 283, vI (J 283 (40 * (40 * ((o : Nat) : Int) + ((a : Nat) : Int)) + ((m : Nat) : Int)).toNat), vI (J 283 (40 * (40 * ((o : Nat) : Int) + ((a : Nat) : Int)) + ((b : Nat) : Int)).toNat), vI (40 * (40 * ((o : Nat) : Int) + ((a : Nat) : Int)) + ((b : Nat) : Int)), vR 283] S J Q
    obtain ⟨o9, K⟩ := K
    obtain ⟨o10, K⟩ := K
    refine ld_283 dX3_reaches_153 hL o9 o10 ?_
    obtain ⟨o11, K⟩ := K
    refine v_iadd dX3_reaches_154 o11 ?_
    refine v_callS (d' := 0) (rest := [vI (40 * (40 * ((o : Nat) : Int) + ((a : Nat) : Int)) + ((b : Nat) : Int)), vR 283]) [vI (J 283 (40 * (40 * ((o : Nat) : Int) + ((a : Nat) : Int)) + ((b : Nat) : Int)).toNat), vI ((J 283 (40 * (40 * ((o : Nat) : Int) + ((a : Nat) : Int)) + ((m : Nat) : Int)).toNat) + (J 283 (40 * (40 * ((o : Nat) : Int) + ((m : Nat) : Int)) + ((b : Nat) : Int)).toNat))] dX3_reaches_155 srX3_137 rfl (one_I (one_I one_nil)) (Nat.le_of_ble_eq_true rfl) (Nat.le_of_ble_eq_true rfl) (Nat.le_of_ble_eq_true rfl) ?_
    refine s_min hL (J 283 (40 * (40 * ((o : Nat) : Int) + ((a : Nat) : Int)) + ((b : Nat) : Int)).toNat) ((J 283 (40 * (40 * ((o : Nat) : Int) + ((a : Nat) : Int)) + ((m : Nat) : Int)).toNat) + (J 283 (40 * (40 * ((o : Nat) : Int) + ((m : Nat) : Int)) + ((b : Nat) : Int)).toNat))  ?_
    show V w 1 mX3_reaches 158 [some (vR 84), some (vI ((o : Nat) : Int)), some (vI ((m : Nat) : Int)), some (vI ((a : Nat) : Int)), some (vI ((b : Nat) : Int))] [vI (zmin (J 283 (40 * (40 * ((o : Nat) : Int) + ((a : Nat) : Int)) + ((b : Nat) : Int)).toNat) ((J 283 (40 * (40 * ((o : Nat) : Int) + ((a : Nat) : Int)) + ((m : Nat) : Int)).toNat) + (J 283 (40 * (40 * ((o : Nat) : Int) + ((m : Nat) : Int)) + ((b : Nat) : Int)).toNat))), vI (40 * (40 * ((o : Nat) : Int) + ((a : Nat) : Int)) + ((b : Nat) : Int)), vR 283] S J Q
    refine st_283 dX3_reaches_158 hL o3 o4 ?_
    show V w 1 mX3_reaches 159 [some (vR 84), some (vI ((o : Nat) : Int)), some (vI ((m : Nat) : Int)), some (vI ((a : Nat) : Int)), some (vI ((b : Nat) : Int))] [] S (up J 283 (40 * (40 * ((o : Nat) : Int) + ((a : Nat) : Int)) + ((b : Nat) : Int)).toNat (zmin (J 283 (40 * (40 * ((o : Nat) : Int) + ((a : Nat) : Int)) + ((b : Nat) : Int)).toNat) ((J 283 (40 * (40 * ((o : Nat) : Int) + ((a : Nat) : Int)) + ((m : Nat) : Int)).toNat) + (J 283 (40 * (40 * ((o : Nat) : Int) + ((m : Nat) : Int)) + ((b : Nat) : Int)).toNat)))) Q
    obtain ⟨o12, K⟩ := K
    refine v_iinc dX3_reaches_159 rfl o12 ?_
    show V w 1 mX3_reaches 162 [some (vR 84), some (vI ((o : Nat) : Int)), some (vI ((m : Nat) : Int)), some (vI ((a : Nat) : Int)), some (vI ((b + 1 : Nat) : Int))] [] S (up J 283 (40 * (40 * ((o : Nat) : Int) + ((a : Nat) : Int)) + ((b : Nat) : Int)).toNat (zmin (J 283 (40 * (40 * ((o : Nat) : Int) + ((a : Nat) : Int)) + ((b : Nat) : Int)).toNat) ((J 283 (40 * (40 * ((o : Nat) : Int) + ((a : Nat) : Int)) + ((m : Nat) : Int)).toNat) + (J 283 (40 * (40 * ((o : Nat) : Int) + ((m : Nat) : Int)) + ((b : Nat) : Int)).toNat)))) Q
    refine v_goto 97 dX3_reaches_162 (by decide) ?_
    exact K

/-- distances of a sort, as GridRoom has them: 1000 where not reached -/
def oX (x : Option Nat) : Int := match x with | none => 1000 | some n => (n : Int)
/-- on the way: what is told are lengths of ways -/
def WayA (E : Nat → Nat → Prop) (d : Nat → Nat → Int) : Prop := ∀ a b, a < 40 → b < 40 → 0 ≤ d a b ∧ (d a b ≤ 1000) ∧ (d a b < 1000 → RN E (d a b).toNat a b)
def WayB (E : Nat → Nat → Prop) (m : Nat) (d : Nat → Nat → Int) : Prop := ∀ a b n, a < 40 → b < 40 → RM E m n a b → d a b ≤ (n : Int)
theorem way_fin {E : Nat → Nat → Prop} (hE : ∀ u v, E u v → u < 40 ∧ v < 40) {d : Nat → Nat → Int} (hA : WayA E d) (hB : WayB E 40 d) {a b : Nat} (ha : a < 40) (hb : b < 40) : d a b = oX (dO E a b) := by
  obtain ⟨h1, h2, h3⟩ := hA a b ha hb
  cases e : dO E a b with
  | some n =>
    have hi := dO_is e
    have hn := dO_lt hE ha hb e
    have q := hB a b n ha hb (RM.all hE hi.1)
    have q2 := h3 (by omega)
    show d a b = (n : Int)
    have q3 : ¬ (d a b).toNat < n := fun z => hi.2 _ z q2
    omega
  | none =>
    show d a b = 1000
    rcases Int.lt_or_le (d a b) 1000 with q | q
    · exfalso
      have q2 := h3 q
      -- there is a least one
      have : ∃ n, IsDst E a b n := by
        obtain ⟨n, n1, n2⟩ := pk_least (fun n => RN E n a b) ⟨_, q2⟩
        exact ⟨n, n1, fun m hm => n2 m hm⟩
      obtain ⟨n, hn⟩ := this
      rw [dO_some hn] at e
      cases e
    · omega

abbrev dX (J : Jm) (o : Nat) : Nat → Nat → Int := fun a b => J 283 (1600 * o + 40 * a + b)
theorem WayA.put {E : Nat → Nat → Prop} {d d' : Nat → Nat → Int} {a b m : Nat} (h : WayA E d) (ha : a < 40) (hb : b < 40) (hm : m < 40) (e : d' a b = zmin (d a b) (d a m + d m b)) (ho : ∀ x y, x < 40 → y < 40 → ¬ (x = a ∧ y = b) → d' x y = d x y) : WayA E d' := by
  intro x y hx hy
  by_cases q : x = a ∧ y = b
  · obtain ⟨rfl, rfl⟩ := q
    have h1 := h x y hx hy
    have h2 := h x m hx hm
    have h3 := h m y hm hy
    rw [e]
    unfold zmin
    split
    · exact h1
    · refine ⟨by omega, by omega, fun z => ?_⟩
      have r1 := h2.2.2 (by omega)
      have r2 := h3.2.2 (by omega)
      have := RN_app r1 r2
      rw [show (d x m + d m y).toNat = (d x m).toNat + (d m y).toNat by omega]
      exact this
  · rw [ho x y hx hy q]
    exact h x y hx hy
theorem s_reaches {w : Wd} {S : Sh} {J : Jm} {Q : Out → Sh → Jm → Prop} (hL : Lay S) (h01 : ∀ q : Nat, q < 3200 → J 281 q = 0 ∨ J 281 q = 1) (K : ∀ J', (∀ x k, x ≠ 283 → J' x k = J x k) → (∀ o a b : Nat, o < 2 → a < 40 → b < 40 → J' 283 (1600 * o + 40 * a + b) = oX (dO (xkE J o) a b)) → Q (.inl none) S J') : V w 1 mX3_reaches 0 (ent mX3_reaches [vR 84]) [] S J Q := by
  have ix : ∀ o a b : Nat, (40 * (40 * (o : Int) + (a : Int)) + (b : Int)).toNat = 1600 * o + 40 * a + b := fun o a b => by omega
  have hE : ∀ o u v, xkE J o u v → u < 40 ∧ v < 40 := fun o u v h => ⟨h.1, h.2.1⟩
  -- one sort: from the start on
  have sort : ∀ (o : Nat) (J2 : Jm), o < 2 → (∀ x k, x ≠ 283 → J2 x k = J x k) → (∀ a b : Nat, a < 40 → b < 40 → J2 283 (1600 * o + 40 * a + b) = if a = b then 0 else if J 281 (1600 * o + 40 * a + b) = 0 then 1000 else 1) → (∀ J3 : Jm, (∀ x k, x ≠ 283 → J3 x k = J x k) → (∀ q, ¬ (1600 * o ≤ q ∧ q < 1600 * o + 1600) → J3 283 q = J2 283 q) → (∀ a b : Nat, a < 40 → b < 40 → J3 283 (1600 * o + 40 * a + b) = oX (dO (xkE J o) a b)) → V w 1 mX3_reaches 2 [some (vR 84), some (vI ((o + 1 : Nat) : Int)), none, none, none] [] S J3 Q) → V w 1 mX3_reaches 80 [some (vR 84), some (vI (o : Int)), some (vI ((0 : Nat) : Int)), none, none] [] S J2 Q := by
    intro o J2 ho f2 h2 KK
    refine up_loop (P := fun m J3 => (∀ x k, x ≠ 283 → J3 x k = J x k) ∧ (∀ q, ¬ (1600 * o ≤ q ∧ q < 1600 * o + 1600) → J3 283 q = J2 283 q) ∧ WayA (xkE J o) (dX J3 o) ∧ WayB (xkE J o) m (dX J3 o)) 40
      (fun m J3 => V w 1 mX3_reaches 80 [some (vR 84), some (vI (o : Int)), some (vI (m : Int)), none, none] [] S J3 Q) ?_ ?_ 0 J2 (by omega) ⟨f2, fun _ _ => rfl, fun a b ha hb => ?_, fun a b n ha hb hr => ?_⟩
    · intro m J3 hm ⟨f3, k3, a3, b3⟩ ih
      refine gX3_reaches_80 (J := J3) hL o m (br_n (by omega) ?_)
      refine up_loop (P := fun a J4 => (∀ x k, x ≠ 283 → J4 x k = J x k) ∧ (∀ q, ¬ (1600 * o ≤ q ∧ q < 1600 * o + 1600) → J4 283 q = J2 283 q) ∧ WayA (xkE J o) (dX J4 o) ∧ (∀ x y, x < 40 → y < 40 → dX J4 o x y ≤ dX J3 o x y) ∧ ∀ x y, x < 40 → y < 40 → x < a → dX J4 o x y ≤ dX J3 o x m + dX J3 o m y) 40
        (fun a J4 => V w 1 mX3_reaches 88 [some (vR 84), some (vI (o : Int)), some (vI (m : Int)), some (vI (a : Int)), none] [] S J4 Q) ?_ ?_ 0 J3 (by omega) ⟨f3, k3, a3, fun _ _ _ _ => Int.le_refl _, fun x y _ _ h => absurd h (by omega)⟩
      · intro a J4 ha ⟨f4, k4, a4, m4, p4⟩ ih4
        refine gX3_reaches_88 (J := J4) hL o m a (br_n (by omega) ?_)
        refine up_loop (P := fun b J5 => (∀ x k, x ≠ 283 → J5 x k = J x k) ∧ (∀ q, ¬ (1600 * o ≤ q ∧ q < 1600 * o + 1600) → J5 283 q = J2 283 q) ∧ WayA (xkE J o) (dX J5 o) ∧ (∀ x y, x < 40 → y < 40 → dX J5 o x y ≤ dX J3 o x y) ∧ ∀ x y, x < 40 → y < 40 → (x < a ∨ (x = a ∧ y < b)) → dX J5 o x y ≤ dX J3 o x m + dX J3 o m y) 40
          (fun b J5 => V w 1 mX3_reaches 97 [some (vR 84), some (vI (o : Int)), some (vI (m : Int)), some (vI (a : Int)), some (vI (b : Int))] [] S J5 Q) ?_ ?_ 0 J4 (by omega) ⟨f4, k4, a4, m4, fun x y hx hy h => p4 x y hx hy (by omega)⟩
        · intro b J5 hb ⟨f5, k5, a5, m5, p5⟩ ih5
          have q1 := a5 a b ha hb
          have q2 := a5 a m ha hm
          have q3 := a5 m b hm hb
          have r1 := m5 a b ha hb
          have r2 := m5 a m ha hm
          have r3 := m5 m b hm hb
          dsimp only [dX] at q1 q2 q3 r1 r2 r3
          refine gX3_reaches_97 (J := J5) hL o m a b (br_n (by omega) ?_)
          rw [ix, ix, ix]
          (repeat' (first | ((with_reducible refine And.intro ?_ ?_); omega)))
          generalize hJ6 : up J5 283 (1600 * o + 40 * a + b) (zmin (J5 283 (1600 * o + 40 * a + b)) (J5 283 (1600 * o + 40 * a + m) + J5 283 (1600 * o + 40 * m + b))) = J6
          have e6 : dX J6 o a b = zmin (dX J5 o a b) (dX J5 o a m + dX J5 o m b) := by
            dsimp only [dX]
            rw [← hJ6, up_self]
          have o6 : ∀ x y, x < 40 → y < 40 → ¬ (x = a ∧ y = b) → dX J6 o x y = dX J5 o x y := fun x y hx hy q => by
            dsimp only [dX]
            rw [← hJ6, up_nk (fun e => q (by have := idx3 hx hy ha hb e; exact this.2))]
          refine ih5 J6 ⟨fun x k q => by rw [← hJ6, up_na q, f5 x k q], fun q hq => by rw [← hJ6, up_nk (by omega), k5 q hq], a5.put ha hb hm e6 o6, fun x y hx hy => ?_, fun x y hx hy hp => ?_⟩
          · by_cases q : x = a ∧ y = b
            · obtain ⟨rfl, rfl⟩ := q
              rw [e6]
              dsimp only [dX]
              unfold zmin
              split <;> omega
            · rw [o6 x y hx hy q]
              exact m5 x y hx hy
          · by_cases q : x = a ∧ y = b
            · obtain ⟨rfl, rfl⟩ := q
              rw [e6]
              dsimp only [dX]
              unfold zmin
              split <;> omega
            · rw [o6 x y hx hy q]
              exact p5 x y hx hy (by omega)
        · intro J5 ⟨f5, k5, a5, m5, p5⟩
          refine gX3_reaches_97 (J := J5) hL o m a 40 (br_y (by omega) ⟨by omega, ?_⟩)
          exact ih4 J5 ⟨f5, k5, a5, m5, fun x y hx hy h => p5 x y hx hy (by omega)⟩
      · intro J4 ⟨f4, k4, a4, m4, p4⟩
        refine gX3_reaches_88 (J := J4) hL o m 40 (br_y (by omega) ⟨by omega, ?_⟩)
        refine ih J4 ⟨f4, k4, a4, fun a b n ha hb hr => ?_⟩
        rcases hr.up with q | ⟨n1, n2, q1, q2, q3⟩
        · have z1 := b3 a b n ha hb q
          have z2 := m4 a b ha hb
          omega
        · have z1 := b3 a m n1 ha hm q2
          have z2 := b3 m b n2 hm hb q3
          have z3 := p4 a b ha hb ha
          omega
    · intro J3 ⟨f3, k3, a3, b3⟩
      refine gX3_reaches_80 (J := J3) hL o 40 (br_y (by omega) ⟨by omega, ?_⟩)
      exact KK J3 f3 k3 (fun a b ha hb => way_fin (hE o) a3 b3 ha hb)
    · dsimp only [dX]
      rw [h2 a b ha hb]
      by_cases e : a = b
      · rw [if_pos e]
        exact ⟨by omega, by omega, fun _ => e⟩
      · rw [if_neg e]
        by_cases c : J 281 (1600 * o + 40 * a + b) = 0
        · rw [if_pos c]
          exact ⟨by omega, by omega, fun z => absurd z (by omega)⟩
        · rw [if_neg c]
          exact ⟨by omega, by omega, fun _ => ⟨a, rfl, ha, hb, (h01 _ (by omega)).resolve_left c⟩⟩
    · dsimp only [dX]
      rw [h2 a b ha hb]
      cases n with
      | zero =>
        cases hr
        rw [if_pos rfl]
        exact Int.le_refl _
      | succ n =>
        obtain ⟨c, r1, r2, r3⟩ := hr
        have hn : n = 0 := by omega
        subst hn
        cases r1
        split
        · omega
        · rw [if_neg (by rw [r2.2.2]; decide)]
          omega
  refine gX3_reaches_0 hL ?_
  refine up_loop (P := fun o J1 => (∀ x k, x ≠ 283 → J1 x k = J x k) ∧ ∀ o' a b : Nat, o' < o → a < 40 → b < 40 → J1 283 (1600 * o' + 40 * a + b) = oX (dO (xkE J o') a b)) 2
    (fun o J1 => V w 1 mX3_reaches 2 [some (vR 84), some (vI (o : Int)), none, none, none] [] S J1 Q) ?_ ?_ 0 J (by omega) ⟨fun _ _ _ => rfl, fun o' a b h => absurd h (by omega)⟩
  · intro o J1 ho ⟨f1, c1⟩ ih
    refine gX3_reaches_2 (J := J1) hL o (br_n (by omega) ?_)
    refine up_loop (P := fun a J2 => (∀ x k, x ≠ 283 → J2 x k = J x k) ∧ (∀ q, ¬ (1600 * o ≤ q ∧ q < 1600 * o + 1600) → J2 283 q = J1 283 q) ∧ ∀ x y : Nat, x < a → y < 40 → J2 283 (1600 * o + 40 * x + y) = if x = y then 0 else if J 281 (1600 * o + 40 * x + y) = 0 then 1000 else 1) 40
      (fun a J2 => V w 1 mX3_reaches 9 [some (vR 84), some (vI (o : Int)), some (vI (a : Int)), none, none] [] S J2 Q) ?_ ?_ 0 J1 (by omega) ⟨f1, fun _ _ => rfl, fun x y h => absurd h (by omega)⟩
    · intro a J2 ha ⟨f2, k2, h2⟩ ih2
      refine gX3_reaches_9 (J := J2) hL o a (br_n (by omega) ?_)
      refine up_loop (P := fun b J3 => (∀ x k, x ≠ 283 → J3 x k = J x k) ∧ (∀ q, ¬ (1600 * o ≤ q ∧ q < 1600 * o + 1600) → J3 283 q = J1 283 q) ∧ ∀ x y : Nat, (x < a ∨ (x = a ∧ y < b)) → y < 40 → J3 283 (1600 * o + 40 * x + y) = if x = y then 0 else if J 281 (1600 * o + 40 * x + y) = 0 then 1000 else 1) 40
        (fun b J3 => V w 1 mX3_reaches 17 [some (vR 84), some (vI (o : Int)), some (vI (a : Int)), some (vI (b : Int)), none] [] S J3 Q) ?_ ?_ 0 J2 (by omega) ⟨f2, k2, fun x y h hy => h2 x y (by omega) hy⟩
      · intro b J3 hb ⟨f3, k3, h3⟩ ih3
        have put : ∀ z : Int, z = (if a = b then 0 else if J 281 (1600 * o + 40 * a + b) = 0 then 1000 else 1) → V w 1 mX3_reaches 17 [some (vR 84), some (vI (o : Int)), some (vI (a : Int)), some (vI ((b + 1 : Nat) : Int)), none] [] S (up J3 283 (1600 * o + 40 * a + b) z) Q := fun z hz => by
          refine ih3 _ ⟨fun x k q => by rw [up_na q, f3 x k q], fun q hq => by rw [up_nk (by omega), k3 q hq], fun x y h hy => ?_⟩
          by_cases q : x = a ∧ y = b
          · rw [q.1, q.2, up_self]
            exact hz
          · rw [up_nk (fun e => q (by have := idx3 (by omega) hy ha hb e; exact this.2))]
            exact h3 x y (by omega) hy
        have e281 : J3 281 (1600 * o + 40 * a + b) = J 281 (1600 * o + 40 * a + b) := f3 _ _ (by decide)
        refine gX3_reaches_17 (J := J3) hL o a b (br_n (by omega) ?_)
        rw [ix, e281]
        (repeat' (first | ((with_reducible refine And.intro ?_ ?_); omega)))
        refine br_i (fun c => ?_) (fun c => ?_)
        · (repeat' (first | ((with_reducible refine And.intro ?_ ?_); omega)))
          exact put 0 (by rw [if_pos (by omega)])
        · (repeat' (first | ((with_reducible refine And.intro ?_ ?_); omega)))
          refine br_i (fun c2 => ?_) (fun c2 => ?_)
          · (repeat' (first | ((with_reducible refine And.intro ?_ ?_); omega)))
            exact put 1000 (by rw [if_neg (by omega), if_pos c2])
          · (repeat' (first | ((with_reducible refine And.intro ?_ ?_); omega)))
            exact put 1 (by rw [if_neg (by omega), if_neg c2])
      · intro J3 ⟨f3, k3, h3⟩
        refine gX3_reaches_17 (J := J3) hL o a 40 (br_y (by omega) ⟨by omega, ?_⟩)
        exact ih2 J3 ⟨f3, k3, fun x y h hy => h3 x y (by omega) hy⟩
    · intro J2 ⟨f2, k2, h2⟩
      refine gX3_reaches_9 (J := J2) hL o 40 (br_y (by omega) ?_)
      refine sort o J2 ho f2 (fun a b ha hb => h2 a b ha hb) (fun J3 f3 k3 h3 => ih J3 ⟨f3, fun o' a b ho' ha hb => ?_⟩)
      by_cases e : o' = o
      · subst e; exact h3 a b ha hb
      · rw [k3 _ (by omega), k2 _ (by omega)]
        exact c1 o' a b (by omega) ha hb
  · intro J1 ⟨f1, c1⟩
    exact gX3_reaches_2 (J := J1) hL 2 (br_y (by omega) (K J1 f1 c1))
