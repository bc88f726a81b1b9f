/-! GridRoom: first questions -/
set_option maxRecDepth 100000

def XOk (S : Sh) (J : Jm) (day : Int) : Prop := CpX S J J ∧ MI0 J ∧ day ≤ 100000
theorem VS.nx {S S' : Sh} {l : Nat} (h : VS S S' l) (hL : Lay S') : Nx 0 0 S S' := ⟨hL, h.ex, by rw [h.1]; exact Nat.le_refl _, by rw [h.2.1]; exact Nat.le_refl _⟩
theorem s_beJ {w : Wd} {S : Sh} {J : Jm} {Q : Out → Sh → Jm → Prop} (hL : Lay S) (day : Int) (h : XOk S J day) (K : ∀ S' J', Nx 0 0 S S' → PBe S J J day S' J' → Q (.inl (some (vR 84))) S' J') : V w 3 mX3_be 0 (ent mX3_be [vR 84, vI day]) [] S J Q :=
  s_be hL day J h.1 h.2.1.1 h.2.1.2.1 h.2.1.2.2.1 h.2.2 (fun S' J' hp => K S' J' (hp.2.1.nx hp.1) hp)
theorem s_wholeJ {w : Wd} {S : Sh} {J : Jm} {Q : Out → Sh → Jm → Prop} (hL : Lay S) (day : Int) (h : XOk S J day) (K : ∀ S' J', Nx 0 0 S S' → PWv S J J day S' J' → Q (.inl (some (vR 84))) S' J') : V w 4 mX3_whole 0 (ent mX3_whole [vR 84, vI day]) [] S J Q :=
  s_whole hL day J h.1 h.2.1.1 h.2.1.2.1 h.2.1.2.2.1 h.2.1.2.2.2.1 h.2.2 (fun S' J' hp => K S' J' (hp.1.2.1.nx hp.1.1) hp)
theorem gX1_sign_0 {w : Wd} {S : Sh} {J : Jm} {Q : Out → Sh → Jm → Prop} (hL : Lay S) (s : Int) (known : Int)
    (K : Br (0 ≤ s ∧ s < 40) (Br (0 ≤ known ∧ known ≤ J 64 0) ((XOk S J known) ∧ (∀ (S1 : Sh) (J1 : Jm), Nx 0 0 S S1 → PBe S J J known S1 J1 → Q (.inl (some (vI (J1 85 s.toNat)))) S1 J1)) (Q (.inl (some (vI (-1)))) S J)) (Q (.inl (some (vI (-1)))) S J)) :
    V w 4 mX1_sign 0 (ent mX1_sign [vR 64, vI s, vI known]) [] S J Q := by
  show V w 4 mX1_sign 0 [some (vR 64), some (vI s), some (vI known)] [] S J Q
  refine v_shp (fun hs0 => ?_)
  refine v_iload_n dX1_sign_0 rfl ?_
  refine v_callS (d' := 1) (rest := []) [vI s] dX1_sign_1 srX1_183 rfl (one_I one_nil) (Nat.le_of_ble_eq_true rfl) (Nat.le_of_ble_eq_true rfl) (Nat.le_of_ble_eq_true rfl) ?_
  obtain ⟨K1, K2⟩ := K
  refine sX1_isSign hL s  (fun c1 => ?_) (fun c1 => ?_)
  · have K := K1 c1
    show V w 4 mX1_sign 4 [some (vR 64), some (vI s), some (vI known)] [vI 1] S J Q
    refine v_if_eq 31 dX1_sign_4 (by decide) (fun cQ => absurd cQ (by decide)) (fun _ => ?_)
    refine v_aload_n dX1_sign_7 rfl ?_
    refine v_iload_n dX1_sign_8 rfl ?_
    refine v_callV (d' := 1) (rest := []) [vI known] dX1_sign_9 vrX1_213_1 (L_64 hL).1 rfl rfl (one_I one_nil) (Nat.le_of_ble_eq_true rfl) (Nat.le_of_ble_eq_true rfl) (Nat.le_of_ble_eq_true rfl) ?_
    obtain ⟨K1, K2⟩ := K
    refine sX1_isKnown hL known  (fun c2 => ?_) (fun c2 => ?_)
    · have K := K1 c2
      show V w 4 mX1_sign 12 [some (vR 64), some (vI s), some (vI known)] [vI 1] S J Q
      refine v_if_eq 31 dX1_sign_12 (by decide) (fun cQ => absurd cQ (by decide)) (fun _ => ?_)
      refine v_aload_n dX1_sign_15 rfl ?_
      refine v_getR dX1_sign_16 frX1_81_1 rfl (L_64 hL).1 (LR_64_18 hL) (Or.inl rfl) ?_
      refine v_iload_n dX1_sign_19 rfl ?_
      refine v_callV (d' := 3) (rest := []) [vI known] dX1_sign_20 vrX1_216_3 (L_84 hL).1 rfl rfl (one_I one_nil) (Nat.le_of_ble_eq_true rfl) (Nat.le_of_ble_eq_true rfl) (Nat.le_of_ble_eq_true rfl) ?_
      obtain ⟨o1, K⟩ := K
      refine s_beJ hL known o1 (fun S1 J1  hx1 hp => ?_)
      have K := K S1 J1  hx1 hp
      have hL := hx1.1
      have xS1 := hx1.2.1
      show V w 4 mX1_sign 23 [some (vR 64), some (vI s), some (vI known)] [vR 84] S1 J1 Q
      refine v_shp (fun hsS1 => ?_)
      refine v_getR dX1_sign_23 frX1_220_3 rfl (L_84 hL).1 (LR_84_0 hL) (Or.inl rfl) ?_
      refine v_iload_n dX1_sign_26 rfl ?_
      refine ld_85 dX1_sign_27 hL c1.1 c1.2 ?_
      refine v_goto 32 dX1_sign_28 (by decide) ?_
      exact v_iret dX1_sign_32 rfl rfl K
    · have K := K2 c2
      show V w 4 mX1_sign 12 [some (vR 64), some (vI s), some (vI known)] [vI 0] S J Q
      refine v_if_eq 31 dX1_sign_12 (by decide) (fun _ => ?_) (fun cQ => absurd cQ (by decide))
      refine v_iconst dX1_sign_31 (in_lit (by decide)) ?_
      exact v_iret dX1_sign_32 rfl rfl K
  · have K := K2 c1
    show V w 4 mX1_sign 4 [some (vR 64), some (vI s), some (vI known)] [vI 0] S J Q
    refine v_if_eq 31 dX1_sign_4 (by decide) (fun _ => ?_) (fun cQ => absurd cQ (by decide))
    refine v_iconst dX1_sign_31 (in_lit (by decide)) ?_
    exact v_iret dX1_sign_32 rfl rfl K
theorem gX1_classOf_0 {w : Wd} {S : Sh} {J : Jm} {Q : Out → Sh → Jm → Prop} (hL : Lay S) (o : Int) (s : Int) (known : Int)
    (K : Br (0 ≤ o ∧ o < 2) (Br (0 ≤ s ∧ s < 40) (Br (0 ≤ known ∧ known ≤ J 64 0) ((XOk S J known) ∧ (∀ (S1 : Sh) (J1 : Jm), Nx 0 0 S S1 → PWv S J J known S1 J1 → (-2147483648 ≤ 40 * o ∧ 40 * o ≤ 2147483647) ∧ (-2147483648 ≤ (40 * o) + (J1 85 s.toNat) ∧ (40 * o) + (J1 85 s.toNat) ≤ 2147483647) ∧ (0 ≤ (40 * o) + (J1 85 s.toNat)) ∧ ((40 * o) + (J1 85 s.toNat) < 80) ∧ Q (.inl (some (vI (J1 284 ((40 * o) + (J1 85 s.toNat)).toNat)))) S1 J1)) (Q (.inl (some (vI (-1)))) S J)) (Q (.inl (some (vI (-1)))) S J)) (Q (.inl (some (vI (-1)))) S J)) :
    V w 5 mX1_classOf 0 (ent mX1_classOf [vR 64, vI o, vI s, vI known]) [] S J Q := by
  show V w 5 mX1_classOf 0 [some (vR 64), some (vI o), some (vI s), some (vI known)] [] S J Q
  refine v_shp (fun hs0 => ?_)
  refine v_iload_n dX1_classOf_0 rfl ?_
  refine v_callS (d' := 1) (rest := []) [vI o] dX1_classOf_1 srX1_234 rfl (one_I one_nil) (Nat.le_of_ble_eq_true rfl) (Nat.le_of_ble_eq_true rfl) (Nat.le_of_ble_eq_true rfl) ?_
  obtain ⟨K1, K2⟩ := K
  refine sX1_isSort hL o  (fun c1 => ?_) (fun c1 => ?_)
  · have K := K1 c1
    show V w 5 mX1_classOf 4 [some (vR 64), some (vI o), some (vI s), some (vI known)] [vI 1] S J Q
    refine v_if_eq 22 dX1_classOf_4 (by decide) (fun cQ => absurd cQ (by decide)) (fun _ => ?_)
    refine v_iload_n dX1_classOf_7 rfl ?_
    refine v_callS (d' := 1) (rest := []) [vI s] dX1_classOf_8 srX1_183 rfl (one_I one_nil) (Nat.le_of_ble_eq_true rfl) (Nat.le_of_ble_eq_true rfl) (Nat.le_of_ble_eq_true rfl) ?_
    obtain ⟨K1, K2⟩ := K
    refine sX1_isSign hL s  (fun c2 => ?_) (fun c2 => ?_)
    · have K := K1 c2
      show V w 5 mX1_classOf 11 [some (vR 64), some (vI o), some (vI s), some (vI known)] [vI 1] S J Q
      refine v_if_eq 22 dX1_classOf_11 (by decide) (fun cQ => absurd cQ (by decide)) (fun _ => ?_)
      refine v_aload_n dX1_classOf_14 rfl ?_
      refine v_iload_n dX1_classOf_15 rfl ?_
      refine v_callV (d' := 1) (rest := []) [vI known] dX1_classOf_16 vrX1_213_1 (L_64 hL).1 rfl rfl (one_I one_nil) (Nat.le_of_ble_eq_true rfl) (Nat.le_of_ble_eq_true rfl) (Nat.le_of_ble_eq_true rfl) ?_
      obtain ⟨K1, K2⟩ := K
      refine sX1_isKnown hL known  (fun c3 => ?_) (fun c3 => ?_)
      · have K := K1 c3
        show V w 5 mX1_classOf 19 [some (vR 64), some (vI o), some (vI s), some (vI known)] [vI 1] S J Q
        refine v_if_ne 24 dX1_classOf_19 (by decide) (fun _ => ?_) (fun cQ => absurd cQ (by decide))
        refine v_aload_n dX1_classOf_24 rfl ?_
        refine v_getR dX1_classOf_25 frX1_81_1 rfl (L_64 hL).1 (LR_64_18 hL) (Or.inl rfl) ?_
        refine v_iload_n dX1_classOf_28 rfl ?_
        refine v_callV (d' := 4) (rest := []) [vI known] dX1_classOf_29 vrX1_237_3 (L_84 hL).1 rfl rfl (one_I one_nil) (Nat.le_of_ble_eq_true rfl) (Nat.le_of_ble_eq_true rfl) (Nat.le_of_ble_eq_true rfl) ?_
        obtain ⟨o1, K⟩ := K
        refine s_wholeJ hL known o1 (fun S1 J1  hx1 hp => ?_)
        have K := K S1 J1  hx1 hp
        have hL := hx1.1
        have xS1 := hx1.2.1
        show V w 5 mX1_classOf 32 [some (vR 64), some (vI o), some (vI s), some (vI known)] [vR 84] S1 J1 Q
        refine v_shp (fun hsS1 => ?_)
        refine v_pop dX1_classOf_32 trivial ?_
        refine v_aload_n dX1_classOf_33 rfl ?_
        refine v_getR dX1_classOf_34 frX1_81_1 rfl (L_64 hL).1 (LR_64_18 hL) (Or.inl rfl) ?_
        refine v_getR dX1_classOf_37 frX1_247_3 rfl (L_84 hL).1 (LR_84_10 hL) (Or.inl rfl) ?_
        refine v_bipush dX1_classOf_40 (by decide) (in_lit (by decide)) ?_
        refine v_iload_n dX1_classOf_42 rfl ?_
        obtain ⟨o2, K⟩ := K
        refine v_imul dX1_classOf_43 o2 ?_
        refine v_aload_n dX1_classOf_44 rfl ?_
        refine v_getR dX1_classOf_45 frX1_81_1 rfl (L_64 hL).1 (LR_64_18 hL) (Or.inl rfl) ?_
        refine v_getR dX1_classOf_48 frX1_220_3 rfl (L_84 hL).1 (LR_84_0 hL) (Or.inl rfl) ?_
        refine v_iload_n dX1_classOf_51 rfl ?_
        refine ld_85 dX1_classOf_52 hL c2.1 c2.2 ?_
        obtain ⟨o3, K⟩ := K
        refine v_iadd dX1_classOf_53 o3 ?_
        obtain ⟨o4, K⟩ := K
        obtain ⟨o5, K⟩ := K
        refine ld_284 dX1_classOf_54 hL o4 o5 ?_
        exact v_iret dX1_classOf_55 rfl rfl K
      · have K := K2 c3
        show V w 5 mX1_classOf 19 [some (vR 64), some (vI o), some (vI s), some (vI known)] [vI 0] S J Q
        refine v_if_ne 24 dX1_classOf_19 (by decide) (fun cQ => absurd cQ (by decide)) (fun _ => ?_)
        refine v_iconst dX1_classOf_22 (in_lit (by decide)) ?_
        exact v_iret dX1_classOf_23 rfl rfl K
    · have K := K2 c2
      show V w 5 mX1_classOf 11 [some (vR 64), some (vI o), some (vI s), some (vI known)] [vI 0] S J Q
      refine v_if_eq 22 dX1_classOf_11 (by decide) (fun _ => ?_) (fun cQ => absurd cQ (by decide))
      refine v_iconst dX1_classOf_22 (in_lit (by decide)) ?_
      exact v_iret dX1_classOf_23 rfl rfl K
  · have K := K2 c1
    show V w 5 mX1_classOf 4 [some (vR 64), some (vI o), some (vI s), some (vI known)] [vI 0] S J Q
    refine v_if_eq 22 dX1_classOf_4 (by decide) (fun _ => ?_) (fun cQ => absurd cQ (by decide))
    refine v_iconst dX1_classOf_22 (in_lit (by decide)) ?_
    exact v_iret dX1_classOf_23 rfl rfl K
theorem gX1_links_0 {w : Wd} {S : Sh} {J : Jm} {Q : Out → Sh → Jm → Prop} (hL : Lay S) (o : Int) (known : Int)
    (K : Br (0 ≤ o ∧ o < 2) (Br (0 ≤ known ∧ known ≤ J 64 0) ((XOk S J known) ∧ (∀ (S1 : Sh) (J1 : Jm), Nx 0 0 S S1 → PWv S J J known S1 J1 → V w 5 mX1_links 31 [some (vR 64), some (vI o), none, some (vI 0), some (vI 0), none] [] S1 J1 Q)) (Q (.inl (some (vI (-1)))) S J)) (Q (.inl (some (vI (-1)))) S J)) :
    V w 5 mX1_links 0 (ent mX1_links [vR 64, vI o, vI known]) [] S J Q := by
  show V w 5 mX1_links 0 [some (vR 64), some (vI o), some (vI known), none, none, none] [] S J Q
  refine v_shp (fun hs0 => ?_)
  refine v_iload_n dX1_links_0 rfl ?_
  refine v_callS (d' := 1) (rest := []) [vI o] dX1_links_1 srX1_234 rfl (one_I one_nil) (Nat.le_of_ble_eq_true rfl) (Nat.le_of_ble_eq_true rfl) (Nat.le_of_ble_eq_true rfl) ?_
  obtain ⟨K1, K2⟩ := K
  refine sX1_isSort hL o  (fun c1 => ?_) (fun c1 => ?_)
  · have K := K1 c1
    show V w 5 mX1_links 4 [some (vR 64), some (vI o), some (vI known), none, none, none] [vI 1] S J Q
    refine v_if_eq 15 dX1_links_4 (by decide) (fun cQ => absurd cQ (by decide)) (fun _ => ?_)
    refine v_aload_n dX1_links_7 rfl ?_
    refine v_iload_n dX1_links_8 rfl ?_
    refine v_callV (d' := 1) (rest := []) [vI known] dX1_links_9 vrX1_213_1 (L_64 hL).1 rfl rfl (one_I one_nil) (Nat.le_of_ble_eq_true rfl) (Nat.le_of_ble_eq_true rfl) (Nat.le_of_ble_eq_true rfl) ?_
    obtain ⟨K1, K2⟩ := K
    refine sX1_isKnown hL known  (fun c2 => ?_) (fun c2 => ?_)
    · have K := K1 c2
      show V w 5 mX1_links 12 [some (vR 64), some (vI o), some (vI known), none, none, none] [vI 1] S J Q
      refine v_if_ne 17 dX1_links_12 (by decide) (fun _ => ?_) (fun cQ => absurd cQ (by decide))
      refine v_aload_n dX1_links_17 rfl ?_
      refine v_getR dX1_links_18 frX1_81_1 rfl (L_64 hL).1 (LR_64_18 hL) (Or.inl rfl) ?_
      refine v_iload_n dX1_links_21 rfl ?_
      refine v_callV (d' := 4) (rest := []) [vI known] dX1_links_22 vrX1_237_3 (L_84 hL).1 rfl rfl (one_I one_nil) (Nat.le_of_ble_eq_true rfl) (Nat.le_of_ble_eq_true rfl) (Nat.le_of_ble_eq_true rfl) ?_
      obtain ⟨o1, K⟩ := K
      refine s_wholeJ hL known o1 (fun S1 J1  hx1 hp => ?_)
      have K := K S1 J1  hx1 hp
      have hL := hx1.1
      have xS1 := hx1.2.1
      show V w 5 mX1_links 25 [some (vR 64), some (vI o), some (vI known), none, none, none] [vR 84] S1 J1 Q
      refine v_shp (fun hsS1 => ?_)
      refine v_pop dX1_links_25 trivial ?_
      refine v_iconst dX1_links_26 (in_lit (by decide)) ?_
      refine v_istore_n dX1_links_27 (Nat.le_of_ble_eq_true rfl) ?_
      show V w 5 mX1_links 28 [some (vR 64), some (vI o), some (vI known), some (vI 0), none, none] [] S1 J1 Q
      refine v_iconst dX1_links_28 (in_lit (by decide)) ?_
      refine v_istore dX1_links_29 (Nat.le_of_ble_eq_true rfl) ?_
      show V w 5 mX1_links 31 [some (vR 64), some (vI o), some (vI known), some (vI 0), some (vI 0), none] [] S1 J1 Q
      exact v_forget (fg_some (fg_some (fg_none (fg_some (fg_some (fg_none fg_nil)))))) K
    · have K := K2 c2
      show V w 5 mX1_links 12 [some (vR 64), some (vI o), some (vI known), none, none, none] [vI 0] S J Q
      refine v_if_ne 17 dX1_links_12 (by decide) (fun cQ => absurd cQ (by decide)) (fun _ => ?_)
      refine v_iconst dX1_links_15 (in_lit (by decide)) ?_
      exact v_iret dX1_links_16 rfl rfl K
  · have K := K2 c1
    show V w 5 mX1_links 4 [some (vR 64), some (vI o), some (vI known), none, none, none] [vI 0] S J Q
    refine v_if_eq 15 dX1_links_4 (by decide) (fun _ => ?_) (fun cQ => absurd cQ (by decide))
    refine v_iconst dX1_links_15 (in_lit (by decide)) ?_
    exact v_iret dX1_links_16 rfl rfl K
theorem gX1_links_31 {w : Wd} {S : Sh} {J : Jm} {Q : Out → Sh → Jm → Prop} (hL : Lay S) (o : Int) (n : Int) (a : Nat)
    (K : Br (40 ≤ ((a : Nat) : Int)) (Q (.inl (some (vI n))) S J) ((-2147483648 ≤ ((a : Nat) : Int) + 1 ∧ ((a : Nat) : Int) + 1 ≤ 2147483647) ∧ V w 5 mX1_links 44 [some (vR 64), some (vI o), none, some (vI n), some (vI ((a : Nat) : Int)), some (vI ((a + 1 : Nat) : Int))] [] S J Q)) :
    V w 5 mX1_links 31 [some (vR 64), some (vI o), none, some (vI n), some (vI ((a : Nat) : Int)), none] [] S J Q := by
  refine v_shp (fun hs0 => ?_)
  refine v_iload dX1_links_31 rfl ?_
  refine v_bipush dX1_links_33 (by decide) (in_lit (by decide)) ?_
  obtain ⟨K1, K2⟩ := K
  refine v_icmp_ge 94 dX1_links_35 (by decide) (fun c1 => ?_) (fun c1 => ?_)
  · have K := K1 c1
    refine v_iload_n dX1_links_94 rfl ?_
    exact v_iret dX1_links_95 rfl rfl K
  · have K := K2 c1
    refine v_iload dX1_links_38 rfl ?_
    refine v_iconst dX1_links_40 (in_lit (by decide)) ?_
    obtain ⟨o1, K⟩ := K
    refine v_iadd dX1_links_41 o1 ?_
    show V w 5 mX1_links 42 [some (vR 64), some (vI o), none, some (vI n), some (vI ((a : Nat) : Int)), none] [vI ((a + 1 : Nat) : Int)] S J Q
    refine v_istore dX1_links_42 (Nat.le_of_ble_eq_true rfl) ?_
    show V w 5 mX1_links 44 [some (vR 64), some (vI o), none, some (vI n), some (vI ((a : Nat) : Int)), some (vI ((a + 1 : Nat) : Int))] [] S J Q
    exact K
theorem gX1_links_44 {w : Wd} {S : Sh} {J : Jm} {Q : Out → Sh → Jm → Prop} (hL : Lay S) (o : Int) (n : Int) (a : Nat) (b : Nat)
    (K : Br (40 ≤ ((b : Nat) : Int)) ((-2147483648 ≤ ((a : Nat) : Int) + 1 ∧ ((a : Nat) : Int) + 1 ≤ 2147483647) ∧ V w 5 mX1_links 31 [some (vR 64), some (vI o), none, some (vI n), some (vI ((a + 1 : Nat) : Int)), none] [] S J Q) (((0 ≤ o ∧ o < 2) ∧ (0 ≤ ((a : Nat) : Int) ∧ ((a : Nat) : Int) < 40) ∧ (0 ≤ ((b : Nat) : Int) ∧ ((b : Nat) : Int) < 40)) ∧ (0 ≤ 40 * (40 * o + ((a : Nat) : Int)) + ((b : Nat) : Int)) ∧ (40 * (40 * o + ((a : Nat) : Int)) + ((b : Nat) : Int) < 3200) ∧ Br (J 281 (40 * (40 * o + ((a : Nat) : Int)) + ((b : Nat) : Int)).toNat = 0) ((-2147483648 ≤ n + 0 ∧ n + 0 ≤ 2147483647) ∧ (-2147483648 ≤ ((b : Nat) : Int) + 1 ∧ ((b : Nat) : Int) + 1 ≤ 2147483647) ∧ V w 5 mX1_links 44 [some (vR 64), some (vI o), none, some (vI (n + 0)), some (vI ((a : Nat) : Int)), some (vI ((b + 1 : Nat) : Int))] [] S J Q) ((-2147483648 ≤ n + 1 ∧ n + 1 ≤ 2147483647) ∧ (-2147483648 ≤ ((b : Nat) : Int) + 1 ∧ ((b : Nat) : Int) + 1 ≤ 2147483647) ∧ V w 5 mX1_links 44 [some (vR 64), some (vI o), none, some (vI (n + 1)), some (vI ((a : Nat) : Int)), some (vI ((b + 1 : Nat) : Int))] [] S J Q))) :
    V w 5 mX1_links 44 [some (vR 64), some (vI o), none, some (vI n), some (vI ((a : Nat) : Int)), some (vI ((b : Nat) : Int))] [] S J Q := by
  refine v_shp (fun hs0 => ?_)
  refine v_iload dX1_links_44 rfl ?_
  refine v_bipush dX1_links_46 (by decide) (in_lit (by decide)) ?_
  obtain ⟨K1, K2⟩ := K
  refine v_icmp_ge 88 dX1_links_48 (by decide) (fun c1 => ?_) (fun c1 => ?_)
  · have K := K1 c1
    obtain ⟨o1, K⟩ := K
    refine v_iinc dX1_links_88 rfl o1 ?_
    show V w 5 mX1_links 91 [some (vR 64), some (vI o), none, some (vI n), some (vI ((a + 1 : Nat) : Int)), some (vI ((b : Nat) : Int))] [] S J Q
    refine v_goto 31 dX1_links_91 (by decide) ?_
    exact v_forget (fg_some (fg_some (fg_none (fg_some (fg_some (fg_none fg_nil)))))) K
  · have K := K2 c1
    refine v_iload_n dX1_links_51 rfl ?_
    refine v_aload_n dX1_links_52 rfl ?_
    refine v_getR dX1_links_53 frX1_81_1 rfl (L_64 hL).1 (LR_64_18 hL) (Or.inl rfl) ?_
    refine v_getR dX1_links_56 frX1_240_3 rfl (L_84 hL).1 (LR_84_7 hL) (Or.inl rfl) ?_
    refine v_aload_n dX1_links_59 rfl ?_
    refine v_getR dX1_links_60 frX1_81_1 rfl (L_64 hL).1 (LR_64_18 hL) (Or.inl rfl) ?_
    refine v_iload_n dX1_links_63 rfl ?_
    refine v_iload dX1_links_64 rfl ?_
    refine v_iload dX1_links_66 rfl ?_
    refine v_callV (d' := 0) (rest := [vR 281, vI n]) [vI o, vI ((a : Nat) : Int), vI ((b : Nat) : Int)] dX1_links_68 vrX1_243_3 (L_84 hL).1 rfl rfl (one_I (one_I (one_I one_nil))) (Nat.le_of_ble_eq_true rfl) (Nat.le_of_ble_eq_true rfl) (Nat.le_of_ble_eq_true rfl) ?_
    obtain ⟨o2, K⟩ := K
    refine s_at hL o ((a : Nat) : Int) ((b : Nat) : Int) o2 ?_
    show V w 5 mX1_links 71 [some (vR 64), some (vI o), none, some (vI n), some (vI ((a : Nat) : Int)), some (vI ((b : Nat) : Int))] [vI (40 * (40 * o + ((a : Nat) : Int)) + ((b : Nat) : Int)), vR 281, vI n] S J Q
    obtain ⟨o3, K⟩ := K
    obtain ⟨o4, K⟩ := K
    refine ld_281 dX1_links_71 hL o3 o4 ?_
    obtain ⟨K1, K2⟩ := K
    refine v_if_eq 79 dX1_links_72 (by decide) (fun c2 => ?_) (fun c2 => ?_)
    · have K := K1 c2
      refine v_iconst dX1_links_79 (in_lit (by decide)) ?_
      obtain ⟨o5, K⟩ := K
      refine v_iadd dX1_links_80 o5 ?_
      refine v_istore_n dX1_links_81 (Nat.le_of_ble_eq_true rfl) ?_
      show V w 5 mX1_links 82 [some (vR 64), some (vI o), none, some (vI (n + 0)), some (vI ((a : Nat) : Int)), some (vI ((b : Nat) : Int))] [] S J Q
      obtain ⟨o6, K⟩ := K
      refine v_iinc dX1_links_82 rfl o6 ?_
      show V w 5 mX1_links 85 [some (vR 64), some (vI o), none, some (vI (n + 0)), some (vI ((a : Nat) : Int)), some (vI ((b + 1 : Nat) : Int))] [] S J Q
      refine v_goto 44 dX1_links_85 (by decide) ?_
      exact K
    · have K := K2 c2
      refine v_iconst dX1_links_75 (in_lit (by decide)) ?_
      refine v_goto 80 dX1_links_76 (by decide) ?_
      obtain ⟨o7, K⟩ := K
      refine v_iadd dX1_links_80 o7 ?_
      refine v_istore_n dX1_links_81 (Nat.le_of_ble_eq_true rfl) ?_
      show V w 5 mX1_links 82 [some (vR 64), some (vI o), none, some (vI (n + 1)), some (vI ((a : Nat) : Int)), some (vI ((b : Nat) : Int))] [] S J Q
      obtain ⟨o8, K⟩ := K
      refine v_iinc dX1_links_82 rfl o8 ?_
      show V w 5 mX1_links 85 [some (vR 64), some (vI o), none, some (vI (n + 1)), some (vI ((a : Nat) : Int)), some (vI ((b + 1 : Nat) : Int))] [] S J Q
      refine v_goto 44 dX1_links_85 (by decide) ?_
      exact K

theorem PBe.xkp {S S' : Sh} {J J' σ : Jm} {day : Int} (hs : Shp S) (h : PBe S J σ day S' J') : XKp S J S' J' := h.2.1.xkp hs h.1 (fun a k q => h.2.2.1 a k (by omega) (by omega))
theorem PWv.xkp {S S' : Sh} {J J' σ : Jm} {day : Int} (hs : Shp S) (h : PWv S J σ day S' J') : XKp S J S' J' := h.1.2.1.xkp hs h.1.1 (fun a k q => h.1.2.2.1 a k (by omega) (by omega))
/-- what a question needs -/
def XQ (S : Sh) (J : Jm) : Prop := CpX S J J ∧ MI0 J ∧ J 313 1 ≤ 100000
theorem XQ.ok {S : Sh} {J : Jm} (h : XQ S J) {day : Int} (hd : day ≤ J 64 0) : XOk S J day := ⟨h.1, h.2.1, by have := h.1.2.1.1; have := h.2.2; omega⟩
theorem XQ.now {S : Sh} {J : Jm} (h : XQ S J) : J 64 0 = J 313 1 := h.1.2.1.1
theorem x_sign {w : Wd} {S : Sh} {J : Jm} {Q : Out → Sh → Jm → Prop} (hL : Lay S) (s known : Int) (h : XQ S J) (K : ∀ S' J', XKp S J S' J' → Nx 0 0 S S' → Q (.inl (some (vI (rSign J s known)))) S' J') : V w 4 mX1_sign 0 (ent mX1_sign [vR 64, vI s, vI known]) [] S J Q := by
  refine v_shp (fun hs => ?_)
  have no : ¬ ((0 ≤ s ∧ s < 40) ∧ kno J known) → Q (.inl (some (vI (-1)))) S J := fun q => by
    have := K S J (XKp.same hL hs (fun _ _ _ => rfl)) (Nx.same hL)
    unfold rSign at this
    rw [if_neg q] at this
    exact this
  refine gX1_sign_0 hL s known ?_
  rw [h.now]
  refine br_i (fun h1 => br_i (fun h2 => ⟨h.ok (by rw [h.now]; exact h2.2), fun S1 J1 hx hp => ?_⟩) (fun h2 => no (fun q => h2 q.2))) (fun h1 => no (fun q => h1 q.1))
  have fin := K S1 J1 (hp.xkp hs) hx
  unfold rSign at fin
  rw [if_pos ⟨h1, h2⟩] at fin
  have e := hp.2.2.2.2.1 s.toNat (by omega)
  (repeat' (first | ((with_reducible refine And.intro ?_ ?_); omega)))
  rw [e]
  exact fin

theorem x_classOf {w : Wd} {S : Sh} {J : Jm} {Q : Out → Sh → Jm → Prop} (hL : Lay S) (o s known : Int) (h : XQ S J) (K : ∀ S' J', XKp S J S' J' → Nx 0 0 S S' → Q (.inl (some (vI (rClass J o s known)))) S' J') : V w 5 mX1_classOf 0 (ent mX1_classOf [vR 64, vI o, vI s, vI known]) [] S J Q := by
  refine v_shp (fun hs => ?_)
  have no : ¬ ((0 ≤ o ∧ o ≤ 1) ∧ (0 ≤ s ∧ s < 40) ∧ kno J known) → Q (.inl (some (vI (-1)))) S J := fun q => by
    have := K S J (XKp.same hL hs (fun _ _ _ => rfl)) (Nx.same hL)
    unfold rClass at this
    rw [if_neg q] at this
    exact this
  refine gX1_classOf_0 hL o s known ?_
  rw [h.now]
  refine br_i (fun h0 => br_i (fun h1 => br_i (fun h2 => ⟨h.ok (by rw [h.now]; exact h2.2), fun S1 J1 hx hp => ?_⟩) (fun h2 => no (fun q => h2 q.2.2))) (fun h1 => no (fun q => h1 q.2.1))) (fun h0 => no (fun q => h0 (by omega)))
  have fin := K S1 J1 (hp.xkp hs) hx
  unfold rClass at fin
  rw [if_pos ⟨by omega, h1, h2⟩] at fin
  have e := hp.1.2.2.2.2.1 s.toNat (by omega)
  have hb := lab40 (EH J known) (s := s.toNat) (by omega)
  have e2 : stI J known s.toNat = ((labOf (EH J known) s.toNat : Nat) : Int) := rfl
  rw [e, e2]
  have e3 := hp.2.2.2 o.toNat (labOf (EH J known) s.toNat) (by omega) hb
  rw [show (40 * o + ((labOf (EH J known) s.toNat : Nat) : Int)).toNat = 40 * o.toNat + labOf (EH J known) s.toNat by omega, e3]
  exact ⟨by omega, by omega, by omega, by omega, fin⟩

theorem lkN_flat (J : Jm) (known : Int) (o a : Nat) : ∀ j, j ≤ a + 1 → a < 40 → lkN J known o (40 * a + j) = lkN J known o (40 * a)
  | 0, _, _ => rfl
  | j + 1, hj, ha => by
    show lkN J known o (40 * a + j + 1) = _
    rw [lkN, lkN_flat J known o a j (by omega) ha, b1_n (fun q => by have := q.2; omega)]
    rfl
theorem x_links {w : Wd} {S : Sh} {J : Jm} {Q : Out → Sh → Jm → Prop} (hL : Lay S) (o known : Int) (h : XQ S J) (K : ∀ S' J', XKp S J S' J' → Nx 0 0 S S' → Q (.inl (some (vI (rLinks J o known)))) S' J') : V w 5 mX1_links 0 (ent mX1_links [vR 64, vI o, vI known]) [] S J Q := by
  refine v_shp (fun hs => ?_)
  have no : ¬ ((0 ≤ o ∧ o ≤ 1) ∧ kno J known) → Q (.inl (some (vI (-1)))) S J := fun q => by
    have := K S J (XKp.same hL hs (fun _ _ _ => rfl)) (Nx.same hL)
    unfold rLinks at this
    rw [if_neg q] at this
    exact this
  refine gX1_links_0 hL o known ?_
  rw [h.now]
  refine br_i (fun h0 => br_i (fun h2 => ⟨h.ok (by rw [h.now]; exact h2.2), fun S1 J1 hx hp => ?_⟩) (fun h2 => no (fun q => h2 q.2))) (fun h0 => no (fun q => h0 (by omega)))
  have fin := K S1 J1 (hp.xkp hs) hx
  unfold rLinks at fin
  rw [if_pos ⟨by omega, h2⟩] at fin
  obtain ⟨o, rfl⟩ : ∃ m : Nat, o = m := ⟨o.toNat, by omega⟩
  rw [Int.toNat_natCast] at fin
  have l1 := hp.1.1
  have rows : ∀ (m a : Nat), a + m = 40 → V w 5 mX1_links 31 [some (vR 64), some (vI (o : Int)), none, some (vI ((lkN J known o (40 * a) : Nat) : Int)), some (vI (a : Int)), none] [] S1 J1 Q := by
    intro m
    induction m with
    | zero =>
      intro a ha
      obtain rfl : a = 40 := by omega
      exact gX1_links_31 l1 (o : Int) _ 40 (br_y (by omega) fin)
    | succ m ih =>
      intro a ha
      refine gX1_links_31 l1 (o : Int) _ a (br_n (by omega) ⟨by omega, ?_⟩)
      have cols : ∀ (v b : Nat), b + v = 40 → a < b → V w 5 mX1_links 44 [some (vR 64), some (vI (o : Int)), none, some (vI ((lkN J known o (40 * a + b) : Nat) : Int)), some (vI (a : Int)), some (vI (b : Int))] [] S1 J1 Q := by
        intro v
        induction v with
        | zero =>
          intro b hb hab
          obtain rfl : b = 40 := by omega
          refine gX1_links_44 l1 (o : Int) _ a 40 (br_y (by omega) ⟨by omega, ?_⟩)
          exact ih (a + 1) (by omega)
        | succ v ihv =>
          intro b hb hab
          have iv := ihv (b + 1) (by omega) (by omega)
          have hle := lkN_le J known o (40 * a + b)
          have hB := hp.2.1 o a b (by omega) (by omega) (by omega)
          have ek : lkN J known o (40 * a + (b + 1)) = lkN J known o (40 * a + b) + b1 (LK J known o a b ∧ a < b) := by
            show lkN J known o (40 * a + b + 1) = _
            rw [lkN, show (40 * a + b) / 40 = a by omega, show (40 * a + b) % 40 = b by omega]
          rw [ek] at iv
          refine gX1_links_44 l1 (o : Int) _ a b (br_n (by omega) ?_)
          rw [show (40 * (40 * (o : Int) + (a : Int)) + (b : Int)).toNat = 1600 * o + 40 * a + b by omega]
          (repeat' (first | ((with_reducible refine And.intro ?_ ?_); omega)))
          refine br_i (fun c => ?_) (fun c => ?_)
          · rw [b1_n (fun q => hB.zero.mp c q.1)] at iv
            exact ⟨by omega, by omega, by rw [Int.add_zero]; exact iv⟩
          · rw [b1_y ⟨by rcases hB with q | q; exact q.2; exact absurd q.1 c, hab⟩] at iv
            exact ⟨by omega, by omega, iv⟩
      have go := cols (39 - a) (a + 1) (by omega) (by omega)
      rw [lkN_flat J known o a (a + 1) (by omega) (by omega)] at go
      exact go
  exact rows 40 0 (by omega)
