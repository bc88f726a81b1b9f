/-! GridRoom: rows of the view -/
set_option maxRecDepth 100000
theorem gX3_unlikeAt_0 {w : Wd} {S : Sh} {J : Jm} {Q : Out → Sh → Jm → Prop} (hL : Lay S) (a : Nat) (b : Nat)
    (K : (((a : Nat) : Int) < 192) ∧ (((b : Nat) : Int) < 192) ∧ Br (J 280 a = J 280 b) (V w 0 mX3_unlikeAt 24 [some (vR 84), some (vI ((a : Nat) : Int)), some (vI ((b : Nat) : Int)), some (vI 1000), some (vI 0)] [] S J Q) (Q (.inl (some (vI (-1)))) S J)) :
    V w 0 mX3_unlikeAt 0 (ent mX3_unlikeAt [vR 84, vI ((a : Nat) : Int), vI ((b : Nat) : Int)]) [] S J Q := by
  show V w 0 mX3_unlikeAt 0 [some (vR 84), some (vI ((a : Nat) : Int)), some (vI ((b : Nat) : Int)), none, none] [] S J Q
  refine v_shp (fun hs0 => ?_)
  refine v_aload_n dX3_unlikeAt_0 rfl ?_
  refine v_getR dX3_unlikeAt_1 frX3_27_3 rfl (L_84 hL).1 (LR_84_3 hL) (Or.inl rfl) ?_
  refine v_iload_n dX3_unlikeAt_4 rfl ?_
  obtain ⟨o1, K⟩ := K
  refine ld_280 dX3_unlikeAt_5 hL (by omega) o1 ?_
  show V w 0 mX3_unlikeAt 6 [some (vR 84), some (vI ((a : Nat) : Int)), some (vI ((b : Nat) : Int)), none, none] [vI (J 280 a)] S J Q
  refine v_aload_n dX3_unlikeAt_6 rfl ?_
  refine v_getR dX3_unlikeAt_7 frX3_27_3 rfl (L_84 hL).1 (LR_84_3 hL) (Or.inl rfl) ?_
  refine v_iload_n dX3_unlikeAt_10 rfl ?_
  obtain ⟨o2, K⟩ := K
  refine ld_280 dX3_unlikeAt_11 hL (by omega) o2 ?_
  show V w 0 mX3_unlikeAt 12 [some (vR 84), some (vI ((a : Nat) : Int)), some (vI ((b : Nat) : Int)), none, none] [vI (J 280 b), vI (J 280 a)] S J Q
  obtain ⟨K1, K2⟩ := K
  refine v_icmp_eq 17 dX3_unlikeAt_12 (by decide) (fun c1 => ?_) (fun c1 => ?_)
  · have K := K1 c1
    refine v_sipush dX3_unlikeAt_17 (by decide) (in_lit (by decide)) ?_
    refine v_istore_n dX3_unlikeAt_20 (Nat.le_of_ble_eq_true rfl) ?_
    show V w 0 mX3_unlikeAt 21 [some (vR 84), some (vI ((a : Nat) : Int)), some (vI ((b : Nat) : Int)), some (vI 1000), none] [] S J Q
    refine v_iconst dX3_unlikeAt_21 (in_lit (by decide)) ?_
    refine v_istore dX3_unlikeAt_22 (Nat.le_of_ble_eq_true rfl) ?_
    show V w 0 mX3_unlikeAt 24 [some (vR 84), some (vI ((a : Nat) : Int)), some (vI ((b : Nat) : Int)), some (vI 1000), some (vI 0)] [] S J Q
    exact K
  · have K := K2 c1
    refine v_iconst dX3_unlikeAt_15 (in_lit (by decide)) ?_
    exact v_iret dX3_unlikeAt_16 rfl rfl K
theorem gX3_unlikeAt_24 {w : Wd} {S : Sh} {J : Jm} {Q : Out → Sh → Jm → Prop} (hL : Lay S) (a : Nat) (b : Nat) (fa : Int) (i : Nat)
    (K : (((a : Nat) : Int) < 192) ∧ Br (J 280 a ≤ ((i : Nat) : Int)) (Q (.inl (some (vI fa))) S J) ((((i : Nat) : Int) < 6) ∧ (((b : Nat) : Int) < 192) ∧ Br (J (88 + a) i = J (88 + b) i) ((-2147483648 ≤ ((i : Nat) : Int) + 1 ∧ ((i : Nat) : Int) + 1 ≤ 2147483647) ∧ V w 0 mX3_unlikeAt 24 [some (vR 84), some (vI ((a : Nat) : Int)), some (vI ((b : Nat) : Int)), some (vI fa), some (vI ((i + 1 : Nat) : Int))] [] S J Q) (Br (fa = 1000) ((-2147483648 ≤ ((i : Nat) : Int) + 1 ∧ ((i : Nat) : Int) + 1 ≤ 2147483647) ∧ V w 0 mX3_unlikeAt 24 [some (vR 84), some (vI ((a : Nat) : Int)), some (vI ((b : Nat) : Int)), some (vI ((i : Nat) : Int)), some (vI ((i + 1 : Nat) : Int))] [] S J Q) (Q (.inl (some (vI (-1)))) S J)))) :
    V w 0 mX3_unlikeAt 24 [some (vR 84), some (vI ((a : Nat) : Int)), some (vI ((b : Nat) : Int)), some (vI fa), some (vI ((i : Nat) : Int))] [] S J Q := by
  refine v_shp (fun hs0 => ?_)
  refine v_iload dX3_unlikeAt_24 rfl ?_
  refine v_aload_n dX3_unlikeAt_26 rfl ?_
  refine v_getR dX3_unlikeAt_27 frX3_27_3 rfl (L_84 hL).1 (LR_84_3 hL) (Or.inl rfl) ?_
  refine v_iload_n dX3_unlikeAt_30 rfl ?_
  obtain ⟨o1, K⟩ := K
  refine ld_280 dX3_unlikeAt_31 hL (by omega) o1 ?_
  show V w 0 mX3_unlikeAt 32 [some (vR 84), some (vI ((a : Nat) : Int)), some (vI ((b : Nat) : Int)), some (vI fa), some (vI ((i : Nat) : Int))] [vI (J 280 a), vI ((i : Nat) : Int)] S J Q
  obtain ⟨K1, K2⟩ := K
  refine v_icmp_ge 77 dX3_unlikeAt_32 (by decide) (fun c1 => ?_) (fun c1 => ?_)
  · have K := K1 c1
    refine v_iload_n dX3_unlikeAt_77 rfl ?_
    exact v_iret dX3_unlikeAt_78 rfl rfl K
  · have K := K2 c1
    refine v_aload_n dX3_unlikeAt_35 rfl ?_
    refine v_getR dX3_unlikeAt_36 frX3_24_3 rfl (L_84 hL).1 (LR_84_2 hL) (Or.inl rfl) ?_
    refine v_iload_n dX3_unlikeAt_39 rfl ?_
    refine v_aald dX3_unlikeAt_40 (by rw [(L_87 hL).1]; rfl) rfl (by omega) (by rw [(nci (L_87 hL).2)]; exact o1) (hL.2.2.2.1 a (by have := o1; omega)).1 ?_
    have hr2 := (hL.2.2.2.1 a (by have := o1; omega)).2
    show V w 0 mX3_unlikeAt 41 [some (vR 84), some (vI ((a : Nat) : Int)), some (vI ((b : Nat) : Int)), some (vI fa), some (vI ((i : Nat) : Int))] [vR (88 + a)] S J Q
    refine v_iload dX3_unlikeAt_41 rfl ?_
    obtain ⟨o3, K⟩ := K
    refine v_iald dX3_unlikeAt_43 (by rw [hr2.1]; rfl) (by omega) (by rw [(nci hr2.2)]; exact o3) ?_
    show V w 0 mX3_unlikeAt 44 [some (vR 84), some (vI ((a : Nat) : Int)), some (vI ((b : Nat) : Int)), some (vI fa), some (vI ((i : Nat) : Int))] [vI (J (88 + a) i)] S J Q
    refine v_aload_n dX3_unlikeAt_44 rfl ?_
    refine v_getR dX3_unlikeAt_45 frX3_24_3 rfl (L_84 hL).1 (LR_84_2 hL) (Or.inl rfl) ?_
    refine v_iload_n dX3_unlikeAt_48 rfl ?_
    obtain ⟨o4, K⟩ := K
    refine v_aald dX3_unlikeAt_49 (by rw [(L_87 hL).1]; rfl) rfl (by omega) (by rw [(nci (L_87 hL).2)]; exact o4) (hL.2.2.2.1 b (by have := o4; omega)).1 ?_
    have hr5 := (hL.2.2.2.1 b (by have := o4; omega)).2
    show V w 0 mX3_unlikeAt 50 [some (vR 84), some (vI ((a : Nat) : Int)), some (vI ((b : Nat) : Int)), some (vI fa), some (vI ((i : Nat) : Int))] [vR (88 + b), vI (J (88 + a) i)] S J Q
    refine v_iload dX3_unlikeAt_50 rfl ?_
    refine v_iald dX3_unlikeAt_52 (by rw [hr5.1]; rfl) (by omega) (by rw [(nci hr5.2)]; exact o3) ?_
    show V w 0 mX3_unlikeAt 53 [some (vR 84), some (vI ((a : Nat) : Int)), some (vI ((b : Nat) : Int)), some (vI fa), some (vI ((i : Nat) : Int))] [vI (J (88 + b) i), vI (J (88 + a) i)] S J Q
    obtain ⟨K1, K2⟩ := K
    refine v_icmp_ne 59 dX3_unlikeAt_53 (by decide) (fun c2 => ?_) (fun c2 => ?_)
    · have K := K2 c2
      refine v_iload_n dX3_unlikeAt_59 rfl ?_
      refine v_sipush dX3_unlikeAt_60 (by decide) (in_lit (by decide)) ?_
      obtain ⟨K1, K2⟩ := K
      refine v_icmp_eq 68 dX3_unlikeAt_63 (by decide) (fun c3 => ?_) (fun c3 => ?_)
      · have K := K1 c3
        refine v_iload dX3_unlikeAt_68 rfl ?_
        refine v_istore_n dX3_unlikeAt_70 (Nat.le_of_ble_eq_true rfl) ?_
        show V w 0 mX3_unlikeAt 71 [some (vR 84), some (vI ((a : Nat) : Int)), some (vI ((b : Nat) : Int)), some (vI ((i : Nat) : Int)), some (vI ((i : Nat) : Int))] [] S J Q
        obtain ⟨o6, K⟩ := K
        refine v_iinc dX3_unlikeAt_71 rfl o6 ?_
        show V w 0 mX3_unlikeAt 74 [some (vR 84), some (vI ((a : Nat) : Int)), some (vI ((b : Nat) : Int)), some (vI ((i : Nat) : Int)), some (vI ((i + 1 : Nat) : Int))] [] S J Q
        refine v_goto 24 dX3_unlikeAt_74 (by decide) ?_
        exact K
      · have K := K2 c3
        refine v_iconst dX3_unlikeAt_66 (in_lit (by decide)) ?_
        exact v_iret dX3_unlikeAt_67 rfl rfl K
    · have K := K1 c2
      refine v_goto 71 dX3_unlikeAt_56 (by decide) ?_
      obtain ⟨o7, K⟩ := K
      refine v_iinc dX3_unlikeAt_71 rfl o7 ?_
      show V w 0 mX3_unlikeAt 74 [some (vR 84), some (vI ((a : Nat) : Int)), some (vI ((b : Nat) : Int)), some (vI fa), some (vI ((i + 1 : Nat) : Int))] [] S J Q
      refine v_goto 24 dX3_unlikeAt_74 (by decide) ?_
      exact K

/-- a row of the view -/
def xrow (J : Jm) (i : Nat) : List Int := (List.range (J 280 i).toNat).map (fun j => J (88 + i) j)
theorem xrow_len (J : Jm) (a : Nat) : (xrow J a).length = (J 280 a).toNat := by unfold xrow; simp
theorem xrow_get {J : Jm} {a i : Nat} (h : (i : Int) < J 280 a) : (xrow J a).getD i 0 = J (88 + a) i := by
  unfold xrow
  rw [List.getD_eq_getElem?_getD, List.getElem?_map, List.getElem?_range (by omega)]
  rfl
/-- GridRoom's unlikeAt: 1000 where two rows are alike -/
def ulx (A B : List Int) : Int := if A = B then 1000 else unl A B
theorem dif_nil {A B : List Int} (hl : A.length = B.length) (h : difN A B A.length = []) : A = B := by
  apply List.ext_getElem hl
  intro i h1 h2
  apply Classical.byContradiction
  intro q
  have : i ∈ difN A B A.length := difN_mem.mpr ⟨h1, by
    rw [List.getD_eq_getElem?_getD, List.getD_eq_getElem?_getD, List.getElem?_eq_getElem h1, List.getElem?_eq_getElem h2]
    exact q⟩
  rw [h] at this
  cases this
theorem unl_self (A : List Int) : difN A A A.length = [] := by
  unfold difN
  rw [List.filter_eq_nil_iff]
  intro i _ h
  rw [decide_eq_true_eq] at h
  exact h rfl
theorem s_ulX {w : Wd} {S : Sh} {J : Jm} {Q : Out → Sh → Jm → Prop} (hL : Lay S) (x1 x2 : Int) (h1 : 0 ≤ x1 ∧ x1 < 192) (h2 : 0 ≤ x2 ∧ x2 < 192) (hs1 : 0 ≤ J 280 x1.toNat ∧ J 280 x1.toNat ≤ 6)  (hs2 : 0 ≤ J 280 x2.toNat ∧ J 280 x2.toNat ≤ 6)
    (K : Q (.inl (some (vI (ulx (xrow J x1.toNat) (xrow J x2.toNat))))) S J) : V w 0 mX3_unlikeAt 0 (ent mX3_unlikeAt [vR 84, vI x1, vI x2]) [] S J Q := by
  obtain ⟨a, rfl⟩ : ∃ a : Nat, x1 = a := ⟨x1.toNat, by omega⟩
  obtain ⟨b, rfl⟩ : ∃ b : Nat, x2 = b := ⟨x2.toNat, by omega⟩
  simp only [Int.toNat_natCast] at *
  obtain ⟨N, hN⟩ : ∃ N : Nat, J 280 a = N := ⟨(J 280 a).toNat, by omega⟩
  have lA : (xrow J a).length = N := by rw [xrow_len]; omega
  have lB : (xrow J b).length = (J 280 b).toNat := xrow_len J b
  have key : J 280 a = J 280 b → ∀ (n i : Nat) (f : Int), i + n = N → (f = 1000 ∧ difN (xrow J a) (xrow J b) i = [] ∨ ∃ j : Nat, f = j ∧ j < 6 ∧ difN (xrow J a) (xrow J b) i = [j]) → V w 0 mX3_unlikeAt 24 [some (vR 84), some (vI (a : Int)), some (vI (b : Int)), some (vI f), some (vI (i : Int))] [] S J Q := by
    intro he n
    have hll : (xrow J a).length = (xrow J b).length := by rw [lA, lB]; omega
    induction n with
    | zero =>
      intro i f hi hI
      obtain rfl : i = N := by omega
      refine gX3_unlikeAt_24 hL a b f i ⟨by omega, br_y (by omega) ?_⟩
      rcases hI with ⟨rfl, e⟩ | ⟨j, rfl, hj, e⟩
      · have e2 := dif_nil hll (by rw [lA]; exact e)
        unfold ulx at K
        rw [if_pos e2] at K
        exact K
      · have hu : unl (xrow J a) (xrow J b) = (j : Int) := by
          unfold unl
          rw [if_pos hll, lA, e]
        unfold ulx at K
        rw [if_neg (fun q => by
          have := unl_self (xrow J a)
          rw [← q, ← lA, this] at e
          cases e), hu] at K
        exact K
    | succ n ih =>
      intro i f hi hI
      have hd := difN_succ (xrow J a) (xrow J b) i
      rw [xrow_get (by omega), xrow_get (by omega)] at hd
      refine gX3_unlikeAt_24 hL a b f i ⟨by omega, br_n (by omega) ?_⟩
      (repeat' (first | ((with_reducible refine And.intro ?_ ?_); omega)))
      refine br_i (fun c => ?_) (fun c => br_i (fun c2 => ?_) (fun c2 => ?_))
      · (repeat' (first | ((with_reducible refine And.intro ?_ ?_); omega)))
        rw [if_pos c, List.append_nil] at hd
        refine ih (i + 1) f (by omega) ?_
        rw [hd]
        exact hI
      · (repeat' (first | ((with_reducible refine And.intro ?_ ?_); omega)))
        rw [if_neg c] at hd
        rcases hI with ⟨rfl, e⟩ | ⟨j, rfl, hj, e⟩
        · rw [e] at hd
          exact ih (i + 1) i (by omega) (Or.inr ⟨i, rfl, by omega, hd⟩)
        · omega
      · rw [if_neg c] at hd
        rcases hI with ⟨rfl, e⟩ | ⟨j, rfl, hj, e⟩
        · exact absurd rfl c2
        · rw [e] at hd
          have m1 : j ∈ difN (xrow J a) (xrow J b) (i + 1) := by rw [hd]; simp
          have m2 : i ∈ difN (xrow J a) (xrow J b) (i + 1) := by rw [hd]; simp
          have this : unl (xrow J a) (xrow J b) = -1 := by
            rcases unl_spec (xrow J a) (xrow J b) with q | ⟨-, k, -, -, -, q⟩
            · exact q
            · have m3 : j < i := by
                have : j ∈ difN (xrow J a) (xrow J b) i := by rw [e]; simp
                exact (difN_mem.mp this).1
              have n1 : j = k := Classical.byContradiction fun h => (difN_mem.mp m1).2 (q j (by omega) h)
              have n2 : i = k := Classical.byContradiction fun h => (difN_mem.mp m2).2 (q i (by omega) h)
              omega
          unfold ulx at K
          rw [if_neg (fun q => (difN_mem.mp m2).2 (by rw [q])), this] at K
          exact K
  refine gX3_unlikeAt_0 hL a b ?_
  (repeat' (first | ((with_reducible refine And.intro ?_ ?_); omega)))
  refine br_i (fun c => ?_) (fun c => ?_)
  · exact key c N 0 1000 (by omega) (Or.inl ⟨rfl, rfl⟩)
  · have hne : (xrow J a).length ≠ (xrow J b).length := by rw [lA, lB]; omega
    have this : unl (xrow J a) (xrow J b) = -1 := by
      unfold unl
      rw [if_neg hne]
    unfold ulx at K
    rw [if_neg (fun q => hne (by rw [q])), this] at K
    exact K
theorem gX3_adds_0 {w : Wd} {S : Sh} {J : Jm} {Q : Out → Sh → Jm → Prop} (hL : Lay S) (r : Nat)
    (K : V w 1 mX3_adds 2 [some (vR 84), some (vR r), some (vI 0)] [] S J Q) :
    V w 1 mX3_adds 0 (ent mX3_adds [vR 84, vR r]) [] S J Q := by
  show V w 1 mX3_adds 0 [some (vR 84), some (vR r), none] [] S J Q
  refine v_shp (fun hs0 => ?_)
  refine v_iconst dX3_adds_0 (in_lit (by decide)) ?_
  refine v_istore_n dX3_adds_1 (Nat.le_of_ble_eq_true rfl) ?_
  show V w 1 mX3_adds 2 [some (vR 84), some (vR r), some (vI 0)] [] S J Q
  exact K
theorem gX3_adds_2 {w : Wd} {S : Sh} {J : Jm} {Q : Out → Sh → Jm → Prop} (hL : Lay S) (r : Nat) (i : Nat)
    (K : (Sh.tg S r = 32) ∧ Br (((Sh.ln S r : Nat) : Int) ≤ ((i : Nat) : Int)) ((0 ≤ J 84 4) ∧ (J 84 4 < 192) ∧ V w 1 mX3_adds 54 [some (vR 84), none, some (vI 0)] [] S (up J 280 (J 84 4).toNat ((Sh.ln S r : Nat) : Int)) Q) ((((i : Nat) : Int) < ((Sh.ln S r : Nat) : Int)) ∧ Br (J r i = (-1)) (Q (.inl none) S J) ((0 ≤ J 84 4) ∧ (J 84 4 < 192) ∧ (0 ≤ J r i) ∧ (J r i < 40) ∧ (((i : Nat) : Int) < 6) ∧ (-2147483648 ≤ ((i : Nat) : Int) + 1 ∧ ((i : Nat) : Int) + 1 ≤ 2147483647) ∧ V w 1 mX3_adds 2 [some (vR 84), some (vR r), some (vI ((i + 1 : Nat) : Int))] [] S (up J (88 + (J 84 4).toNat) i (J 85 (J r i).toNat)) Q))) :
    V w 1 mX3_adds 2 [some (vR 84), some (vR r), some (vI ((i : Nat) : Int))] [] S J Q := by
  refine v_shp (fun hs0 => ?_)
  refine v_iload_n dX3_adds_2 rfl ?_
  refine v_aload_n dX3_adds_3 rfl ?_
  obtain ⟨o1, K⟩ := K
  refine v_alen dX3_adds_4 (by rw [o1]; rfl) ?_
  show V w 1 mX3_adds 5 [some (vR 84), some (vR r), some (vI ((i : Nat) : Int))] [vI ((Sh.ln S r : Nat) : Int), vI ((i : Nat) : Int)] S J Q
  obtain ⟨K1, K2⟩ := K
  refine v_icmp_ge 41 dX3_adds_5 (by decide) (fun c1 => ?_) (fun c1 => ?_)
  · have K := K1 c1
    refine v_aload_n dX3_adds_41 rfl ?_
    refine v_getR dX3_adds_42 frX3_27_3 rfl (L_84 hL).1 (LR_84_3 hL) (Or.inl rfl) ?_
    refine v_aload_n dX3_adds_45 rfl ?_
    refine v_getI dX3_adds_46 frX3_90_3 rfl rfl (L_84 hL).1 ?_
    refine v_aload_n dX3_adds_49 rfl ?_
    refine v_alen dX3_adds_50 (by rw [o1]; rfl) ?_
    show V w 1 mX3_adds 51 [some (vR 84), some (vR r), some (vI ((i : Nat) : Int))] [vI ((Sh.ln S r : Nat) : Int), vI (J 84 4), vR 280] S J Q
    obtain ⟨o2, K⟩ := K
    obtain ⟨o3, K⟩ := K
    refine st_280 dX3_adds_51 hL o2 o3 ?_
    show V w 1 mX3_adds 52 [some (vR 84), some (vR r), some (vI ((i : Nat) : Int))] [] S (up J 280 (J 84 4).toNat ((Sh.ln S r : Nat) : Int)) Q
    refine v_iconst dX3_adds_52 (in_lit (by decide)) ?_
    refine v_istore_n dX3_adds_53 (Nat.le_of_ble_eq_true rfl) ?_
    show V w 1 mX3_adds 54 [some (vR 84), some (vR r), some (vI 0)] [] S (up J 280 (J 84 4).toNat ((Sh.ln S r : Nat) : Int)) Q
    exact v_forget (fg_some (fg_none (fg_some fg_nil))) K
  · have K := K2 c1
    refine v_aload_n dX3_adds_8 rfl ?_
    refine v_iload_n dX3_adds_9 rfl ?_
    obtain ⟨o4, K⟩ := K
    refine v_iald dX3_adds_10 (by rw [o1]; rfl) (by omega) o4 ?_
    show V w 1 mX3_adds 11 [some (vR 84), some (vR r), some (vI ((i : Nat) : Int))] [vI (J r i)] S J Q
    refine v_iconst dX3_adds_11 (in_lit (by decide)) ?_
    obtain ⟨K1, K2⟩ := K
    refine v_icmp_ne 16 dX3_adds_12 (by decide) (fun c2 => ?_) (fun c2 => ?_)
    · have K := K2 c2
      refine v_aload_n dX3_adds_16 rfl ?_
      refine v_getR dX3_adds_17 frX3_24_3 rfl (L_84 hL).1 (LR_84_2 hL) (Or.inl rfl) ?_
      refine v_aload_n dX3_adds_20 rfl ?_
      refine v_getI dX3_adds_21 frX3_90_3 rfl rfl (L_84 hL).1 ?_
      obtain ⟨o5, K⟩ := K
      obtain ⟨o6, K⟩ := K
      refine v_aald dX3_adds_24 (by rw [(L_87 hL).1]; rfl) rfl o5 (by rw [(nci (L_87 hL).2)]; exact o6) (hL.2.2.2.1 (J 84 4).toNat (by have := o6; omega)).1 ?_
      have hr7 := (hL.2.2.2.1 (J 84 4).toNat (by have := o6; omega)).2
      show V w 1 mX3_adds 25 [some (vR 84), some (vR r), some (vI ((i : Nat) : Int))] [vR (88 + (J 84 4).toNat)] S J Q
      refine v_iload_n dX3_adds_25 rfl ?_
      refine v_aload_n dX3_adds_26 rfl ?_
      refine v_getR dX3_adds_27 frX3_15_3 rfl (L_84 hL).1 (LR_84_0 hL) (Or.inl rfl) ?_
      refine v_aload_n dX3_adds_30 rfl ?_
      refine v_iload_n dX3_adds_31 rfl ?_
      refine v_iald dX3_adds_32 (by rw [o1]; rfl) (by omega) o4 ?_
      show V w 1 mX3_adds 33 [some (vR 84), some (vR r), some (vI ((i : Nat) : Int))] [vI (J r i), vR 85, vI ((i : Nat) : Int), vR (88 + (J 84 4).toNat)] S J Q
      obtain ⟨o8, K⟩ := K
      obtain ⟨o9, K⟩ := K
      refine ld_85 dX3_adds_33 hL o8 o9 ?_
      obtain ⟨o10, K⟩ := K
      refine v_iast dX3_adds_34 (by rw [hr7.1]; rfl) (by rw [hr7.1]; decide) (by omega) (by rw [(nci hr7.2)]; exact o10) ?_
      show V w 1 mX3_adds 35 [some (vR 84), some (vR r), some (vI ((i : Nat) : Int))] [] S (up J (88 + (J 84 4).toNat) i (J 85 (J r i).toNat)) Q
      obtain ⟨o11, K⟩ := K
      refine v_iinc dX3_adds_35 rfl o11 ?_
      show V w 1 mX3_adds 38 [some (vR 84), some (vR r), some (vI ((i + 1 : Nat) : Int))] [] S (up J (88 + (J 84 4).toNat) i (J 85 (J r i).toNat)) Q
      refine v_goto 2 dX3_adds_38 (by decide) ?_
      exact K
    · have K := K1 c2
      exact v_vret dX3_adds_15 rfl K
theorem gX3_adds_54 {w : Wd} {S : Sh} {J : Jm} {Q : Out → Sh → Jm → Prop} (hL : Lay S) (k : Nat)
    (K : Br (J 84 4 ≤ ((k : Nat) : Int)) ((-2147483648 ≤ (J 84 4) + 1 ∧ (J 84 4) + 1 ≤ 2147483647) ∧ Q (.inl none) S (up J 84 4 ((J 84 4) + 1))) ((0 ≤ ((k : Nat) : Int) ∧ ((k : Nat) : Int) < 192) ∧ (0 ≤ (J 84 4) ∧ (J 84 4) < 192) ∧ (0 ≤ J 280 (((k : Nat) : Int)).toNat ∧ J 280 (((k : Nat) : Int)).toNat ≤ 6) ∧ (0 ≤ J 280 ((J 84 4)).toNat ∧ J 280 ((J 84 4)).toNat ≤ 6) ∧ Br (ulx (xrow J (((k : Nat) : Int)).toNat) (xrow J ((J 84 4)).toNat) = 1000) (Q (.inl none) S J) ((-2147483648 ≤ ((k : Nat) : Int) + 1 ∧ ((k : Nat) : Int) + 1 ≤ 2147483647) ∧ V w 1 mX3_adds 54 [some (vR 84), none, some (vI ((k + 1 : Nat) : Int))] [] S J Q))) :
    V w 1 mX3_adds 54 [some (vR 84), none, some (vI ((k : Nat) : Int))] [] S J Q := by
  refine v_shp (fun hs0 => ?_)
  refine v_iload_n dX3_adds_54 rfl ?_
  refine v_aload_n dX3_adds_55 rfl ?_
  refine v_getI dX3_adds_56 frX3_90_3 rfl rfl (L_84 hL).1 ?_
  obtain ⟨K1, K2⟩ := K
  refine v_icmp_ge 84 dX3_adds_59 (by decide) (fun c1 => ?_) (fun c1 => ?_)
  · have K := K1 c1
    refine v_aload_n dX3_adds_84 rfl ?_
    refine v_dup dX3_adds_85 trivial ?_
    refine v_getI dX3_adds_86 frX3_90_3 rfl rfl (L_84 hL).1 ?_
    refine v_iconst dX3_adds_89 (in_lit (by decide)) ?_
    obtain ⟨o1, K⟩ := K
    refine v_iadd dX3_adds_90 o1 ?_
    refine v_putI dX3_adds_91 frX3_90_3 (fun _ _ _ h => by cases h; exact Or.inl rfl) rfl rfl zfit_int (L_84 hL).1 ?_
    show V w 1 mX3_adds 94 [some (vR 84), none, some (vI ((k : Nat) : Int))] [] S (up J 84 4 ((J 84 4) + 1)) Q
    exact v_vret dX3_adds_94 rfl K
  · have K := K2 c1
    refine v_aload_n dX3_adds_62 rfl ?_
    refine v_iload_n dX3_adds_63 rfl ?_
    refine v_aload_n dX3_adds_64 rfl ?_
    refine v_getI dX3_adds_65 frX3_90_3 rfl rfl (L_84 hL).1 ?_
    refine v_callV (d' := 0) (rest := []) [vI ((k : Nat) : Int), vI (J 84 4)] dX3_adds_68 vrX3_146_3 (L_84 hL).1 rfl rfl (one_I (one_I one_nil)) (Nat.le_of_ble_eq_true rfl) (Nat.le_of_ble_eq_true rfl) (Nat.le_of_ble_eq_true rfl) ?_
    obtain ⟨o2, K⟩ := K
    obtain ⟨o3, K⟩ := K
    obtain ⟨o4, K⟩ := K
    obtain ⟨o5, K⟩ := K
    refine s_ulX hL ((k : Nat) : Int) (J 84 4) o2 o3 o4 o5 ?_
    show V w 1 mX3_adds 71 [some (vR 84), none, some (vI ((k : Nat) : Int))] [vI (ulx (xrow J (((k : Nat) : Int)).toNat) (xrow J ((J 84 4)).toNat))] S J Q
    refine v_sipush dX3_adds_71 (by decide) (in_lit (by decide)) ?_
    obtain ⟨K1, K2⟩ := K
    refine v_icmp_ne 78 dX3_adds_74 (by decide) (fun c2 => ?_) (fun c2 => ?_)
    · have K := K2 c2
      obtain ⟨o6, K⟩ := K
      refine v_iinc dX3_adds_78 rfl o6 ?_
      show V w 1 mX3_adds 81 [some (vR 84), none, some (vI ((k + 1 : Nat) : Int))] [] S J Q
      refine v_goto 54 dX3_adds_81 (by decide) ?_
      exact K
    · have K := K1 c2
      exact v_vret dX3_adds_77 rfl K

/-- the rows of the view -/
def PWx (J : Jm) (L : List (List Int)) : Prop := J 84 4 = L.length ∧ ∀ i : Nat, i < L.length → (0 ≤ J 280 i ∧ J 280 i ≤ 6) ∧ xrow J i = L.getD i []
/-- a row of signs in memory -/
def rwX (J : Jm) (r n : Nat) : List Int := (List.range n).map (fun i => J r i)
def addL (st : Nat → Int) (R : List Int) (L : List (List Int)) : List (List Int) := if -1 ∈ R then L else if R.map (fun z => st z.toNat) ∈ L then L else L ++ [R.map (fun z => st z.toNat)]
/-- only rows of the view change -/
def FRw (J J' : Jm) : Prop := ∀ a k, ¬ (a = 84 ∧ k = 4) → a ≠ 280 → ¬ (88 ≤ a ∧ a < 280) → J' a k = J a k
theorem FRw.trans {J J1 J2 : Jm} (h : FRw J J1) (h2 : FRw J1 J2) : FRw J J2 := fun a k q1 q2 q3 => (h2 a k q1 q2 q3).trans (h a k q1 q2 q3)
theorem xrow_cong {J J' : Jm} {i : Nat} (h : J' 280 i = J 280 i) (h2 : ∀ k, J' (88 + i) k = J (88 + i) k) : xrow J' i = xrow J i := by
  unfold xrow
  rw [h]
  simp only [h2]
theorem unl_lt {A B : List Int} (h : A.length ≤ 6) : unl A B < 1000 := by
  rcases unl_spec A B with q | ⟨-, i, q, h2, -⟩ <;> omega
theorem s_addsX {w : Wd} {S : Sh} {J : Jm} {Q : Out → Sh → Jm → Prop} (hL : Lay S) (r : Nat) (st : Nat → Int) (L : List (List Int)) (hr : 365 ≤ r) (ht : S.tg r = 32) (hn : S.ln r ≤ 6) (he : ∀ i, i < S.ln r → -1 ≤ J r i ∧ J r i < 40) (hst : ∀ s : Nat, s < 40 → J 85 s = st s) (hW : PWx J L) (hl : L.length < 192)
    (K : ∀ J', FRw J J' → PWx J' (addL st (rwX J r (S.ln r)) L) → Q (.inl none) S J') : V w 1 mX3_adds 0 (ent mX3_adds [vR 84, vR r]) [] S J Q := by
  generalize hm : L.length = m at hl
  have h84 : J 84 4 = (m : Int) := by rw [← hm]; exact hW.1
  generalize hN : S.ln r = n at hn he K
  -- rows before m are as they were
  have keep : ∀ J1 : Jm, (∀ a k, ¬ (a = 84 ∧ k = 4) → ¬ (a = 280 ∧ k = m) → a ≠ 88 + m → J1 a k = J a k) → ∀ i, i < m → J1 280 i = J 280 i ∧ xrow J1 i = xrow J i := by
    intro J1 f1 i hi
    have e1 : J1 280 i = J 280 i := f1 _ _ (by omega) (by omega) (by omega)
    exact ⟨e1, xrow_cong e1 (fun k => f1 _ _ (by omega) (by omega) (by omega))⟩
  have frw : ∀ J1 : Jm, (∀ a k, ¬ (a = 84 ∧ k = 4) → ¬ (a = 280 ∧ k = m) → a ≠ 88 + m → J1 a k = J a k) → FRw J J1 := fun J1 f1 a k q1 q2 q3 => f1 a k q1 (fun q => q2 q.1) (by omega)
  have same : ∀ J1 : Jm, (∀ a k, ¬ (a = 84 ∧ k = 4) → ¬ (a = 280 ∧ k = m) → a ≠ 88 + m → J1 a k = J a k) → J1 84 4 = (m : Int) → PWx J1 L := by
    intro J1 f1 e1
    refine ⟨by rw [e1, hm], fun i hi => ?_⟩
    obtain ⟨k1, k2⟩ := keep J1 f1 i (by omega)
    rw [k1, k2]
    exact hW.2 i hi
  refine gX3_adds_0 hL r ?_
  have fill : ∀ (v i : Nat) (J1 : Jm), i + v = n → (∀ a k, a ≠ 88 + m → J1 a k = J a k) → (∀ j, j < i → J r j ≠ -1 ∧ J1 (88 + m) j = st (J r j).toNat) → V w 1 mX3_adds 2 [some (vR 84), some (vR r), some (vI (i : Int))] [] S J1 Q := by
    intro v
    induction v with
    | zero =>
      intro i J1 hi f1 h1
      obtain rfl : i = n := by omega
      have e84 : J1 84 4 = (m : Int) := by rw [f1 _ _ (by omega)]; exact h84
      have hno : ¬ (-1 : Int) ∈ rwX J r i := by
        unfold rwX
        rw [List.mem_map]
        rintro ⟨j, q1, q2⟩
        exact (h1 j (List.mem_range.mp q1)).1 q2
      refine gX3_adds_2 (J := J1) hL r i ⟨ht, br_y (by omega) ?_⟩
      rw [e84, Int.toNat_natCast, hN]
      (repeat' (first | ((with_reducible refine And.intro ?_ ?_); omega)))
      -- the row stands; is it new?
      generalize hJ2 : up J1 280 m ((i : Nat) : Int) = J2
      have f2 : ∀ a k, ¬ (a = 84 ∧ k = 4) → ¬ (a = 280 ∧ k = m) → a ≠ 88 + m → J2 a k = J a k := fun a k q1 q2 q3 => by rw [← hJ2, up_ne q2, f1 a k q3]
      have z84 : J2 84 4 = (m : Int) := by rw [← hJ2, up_na (by decide)]; exact e84
      have z280 : J2 280 m = (i : Int) := by rw [← hJ2, up_self]
      have zr : xrow J2 m = (rwX J r i).map (fun z => st z.toNat) := by
        unfold xrow rwX
        rw [z280, Int.toNat_natCast, List.map_map, mr_eq]
        refine ⟨rfl, fun j hj => ?_⟩
        rw [← hJ2, up_na (by omega)]
        exact (h1 j hj).2
      have hlen : ∀ k, k < m → (0 ≤ J2 280 k ∧ J2 280 k ≤ 6) ∧ xrow J2 k = L.getD k [] := fun k hk => by
        obtain ⟨k1, k2⟩ := keep J2 f2 k hk
        rw [k1, k2]
        exact hW.2 k (by omega)
      have find : ∀ (v k : Nat), k + v = m → (∀ j, j < k → L.getD j [] ≠ (rwX J r i).map (fun z => st z.toNat)) → V w 1 mX3_adds 54 [some (vR 84), none, some (vI (k : Int))] [] S J2 Q := by
        intro v
        induction v with
        | zero =>
          intro k hk hnot
          obtain rfl : k = m := by omega
          refine gX3_adds_54 (J := J2) hL k (br_y (by omega) ?_)
          rw [z84]
          refine ⟨by omega, K _ (fun a k' q1 q2 q3 => by rw [up_ne q1]; exact frw J2 f2 a k' q1 q2 q3) ?_⟩
          have hnm : ¬ (rwX J r i).map (fun z => st z.toNat) ∈ L := by
            intro q
            obtain ⟨j, q1, q2⟩ := List.getElem_of_mem q
            refine hnot j (by omega) ?_
            rw [List.getD_eq_getElem?_getD, List.getElem?_eq_getElem q1, q2]
            rfl
          unfold addL
          rw [if_neg hno, if_neg hnm]
          refine ⟨by rw [up_self, List.length_append, hm]; rfl, fun j hj => ?_⟩
          rw [List.length_append] at hj
          have hj1 : j < k + 1 := by rw [← hm]; exact hj
          have ex : xrow (up J2 84 4 ((k : Int) + 1)) j = xrow J2 j := xrow_cong (up_na (by decide)) (fun k' => up_na (by omega))
          rw [ex, up_na (by decide)]
          by_cases e : j = k
          · subst e
            rw [z280, zr]
            refine ⟨⟨by omega, by omega⟩, ?_⟩
            rw [List.getD_eq_getElem?_getD, List.getElem?_append_right (by omega), hm, Nat.sub_self]
            rfl
          · refine ⟨(hlen j (by omega)).1, ?_⟩
            rw [(hlen j (by omega)).2, List.getD_eq_getElem?_getD, List.getD_eq_getElem?_getD, List.getElem?_append_left (by omega)]
        | succ v ihv =>
          intro k hk hnot
          have hk6 := hlen k (by omega)
          refine gX3_adds_54 (J := J2) hL k (br_n (by omega) ?_)
          rw [z84, Int.toNat_natCast, Int.toNat_natCast, z280, hk6.2, zr]
          (repeat' (first | ((with_reducible refine And.intro ?_ ?_); omega)))
          have hl6 : (L.getD k []).length ≤ 6 := by
            rw [← hk6.2, xrow_len]
            omega
          refine br_i (fun c => ?_) (fun c => ?_)
          · have e : L.getD k [] = (rwX J r i).map (fun z => st z.toNat) := by
              apply Classical.byContradiction
              intro q
              unfold ulx at c
              rw [if_neg q] at c
              have := unl_lt (B := (rwX J r i).map (fun z => st z.toNat)) hl6
              omega
            have hmem : (rwX J r i).map (fun z => st z.toNat) ∈ L := by
              rw [← e, List.getD_eq_getElem?_getD, List.getElem?_eq_getElem (by omega)]
              exact List.getElem_mem _
            have fin := K J2 (frw J2 f2)
            unfold addL at fin
            rw [if_neg hno, if_pos hmem] at fin
            exact fin (same J2 f2 z84)
          · (repeat' (first | ((with_reducible refine And.intro ?_ ?_); omega)))
            refine ihv (k + 1) (by omega) (fun j hj => ?_)
            by_cases e : j = k
            · subst e
              intro q
              unfold ulx at c
              rw [if_pos q] at c
              exact c rfl
            · exact hnot j (by omega)
      exact find m 0 (by omega) (fun j hj => absurd hj (by omega))
    | succ v ih =>
      intro i J1 hi f1 h1
      have e84 : J1 84 4 = (m : Int) := by rw [f1 _ _ (by omega)]; exact h84
      have er : J1 r i = J r i := f1 _ _ (by omega)
      have hei := he i (by omega)
      refine gX3_adds_2 (J := J1) hL r i ⟨ht, br_n (by omega) ?_⟩
      rw [e84, Int.toNat_natCast, hN, er]
      (repeat' (first | ((with_reducible refine And.intro ?_ ?_); omega)))
      refine br_i (fun c => ?_) (fun c => ?_)
      · have fin := K J1 (frw J1 (fun a k q1 q2 q3 => f1 a k q3))
        unfold addL at fin
        rw [if_pos (by
          unfold rwX
          rw [List.mem_map]
          exact ⟨i, List.mem_range.mpr (by omega), c⟩)] at fin
        exact fin (same J1 (fun a k q1 q2 q3 => f1 a k q3) e84)
      · (repeat' (first | ((with_reducible refine And.intro ?_ ?_); omega)))
        refine ih (i + 1) _ (by omega) (fun a k q => by rw [up_na q, f1 a k q]) (fun j hj => ?_)
        by_cases e : j = i
        · subst e
          rw [up_self, f1 _ _ (by omega)]
          exact ⟨c, hst _ (by omega)⟩
        · rw [up_nk e]
          exact h1 j (by omega)
  exact fill n 0 J (by omega) (fun _ _ _ => rfl) (fun j hj => absurd hj (by omega))
