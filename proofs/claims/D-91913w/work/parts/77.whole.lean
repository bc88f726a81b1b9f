/-! GridRoom: classes, the whole view -/
set_option maxRecDepth 100000
theorem gX3_classes_0 {w : Wd} {S : Sh} {J : Jm} {Q : Out → Sh → Jm → Prop} (hL : Lay S) (o : Nat)
    (K : V w 2 mX3_classes 2 [some (vR 84), some (vI ((o : Nat) : Int)), some (vI 0), none] [] S J Q) :
    V w 2 mX3_classes 0 (ent mX3_classes [vR 84, vI ((o : Nat) : Int)]) [] S J Q := by
  show V w 2 mX3_classes 0 [some (vR 84), some (vI ((o : Nat) : Int)), none, none] [] S J Q
  refine v_shp (fun hs0 => ?_)
  refine v_iconst dX3_classes_0 (in_lit (by decide)) ?_
  refine v_istore_n dX3_classes_1 (Nat.le_of_ble_eq_true rfl) ?_
  show V w 2 mX3_classes 2 [some (vR 84), some (vI ((o : Nat) : Int)), some (vI 0), none] [] S J Q
  exact K
theorem gX3_classes_2 {w : Wd} {S : Sh} {J : Jm} {Q : Out → Sh → Jm → Prop} (hL : Lay S) (o : Nat) (s : Nat)
    (K : Br (40 ≤ ((s : Nat) : Int)) (V w 2 mX3_classes 23 [some (vR 84), some (vI ((o : Nat) : Int)), some (vI 0), none] [] S J Q) ((((s : Nat) : Int) < 40) ∧ (-2147483648 ≤ ((s : Nat) : Int) + 1 ∧ ((s : Nat) : Int) + 1 ≤ 2147483647) ∧ V w 2 mX3_classes 2 [some (vR 84), some (vI ((o : Nat) : Int)), some (vI ((s + 1 : Nat) : Int)), none] [] S (up J 286 s ((s : Nat) : Int)) Q)) :
    V w 2 mX3_classes 2 [some (vR 84), some (vI ((o : Nat) : Int)), some (vI ((s : Nat) : Int)), none] [] S J Q := by
  refine v_shp (fun hs0 => ?_)
  refine v_iload_n dX3_classes_2 rfl ?_
  refine v_bipush dX3_classes_3 (by decide) (in_lit (by decide)) ?_
  obtain ⟨K1, K2⟩ := K
  refine v_icmp_ge 21 dX3_classes_5 (by decide) (fun c1 => ?_) (fun c1 => ?_)
  · have K := K1 c1
    refine v_iconst dX3_classes_21 (in_lit (by decide)) ?_
    refine v_istore_n dX3_classes_22 (Nat.le_of_ble_eq_true rfl) ?_
    show V w 2 mX3_classes 23 [some (vR 84), some (vI ((o : Nat) : Int)), some (vI 0), none] [] S J Q
    exact K
  · have K := K2 c1
    refine v_aload_n dX3_classes_8 rfl ?_
    refine v_getR dX3_classes_9 frX3_46_3 rfl (L_84 hL).1 (LR_84_12 hL) (Or.inl rfl) ?_
    refine v_iload_n dX3_classes_12 rfl ?_
    refine v_iload_n dX3_classes_13 rfl ?_
    obtain ⟨o1, K⟩ := K
    refine st_286 dX3_classes_14 hL (by omega) o1 ?_
    show V w 2 mX3_classes 15 [some (vR 84), some (vI ((o : Nat) : Int)), some (vI ((s : Nat) : Int)), none] [] S (up J 286 s ((s : Nat) : Int)) Q
    obtain ⟨o2, K⟩ := K
    refine v_iinc dX3_classes_15 rfl o2 ?_
    show V w 2 mX3_classes 18 [some (vR 84), some (vI ((o : Nat) : Int)), some (vI ((s + 1 : Nat) : Int)), none] [] S (up J 286 s ((s : Nat) : Int)) Q
    refine v_goto 2 dX3_classes_18 (by decide) ?_
    exact K
theorem gX3_classes_23 {w : Wd} {S : Sh} {J : Jm} {Q : Out → Sh → Jm → Prop} (hL : Lay S) (o : Nat) (a : Nat)
    (K : Br (40 ≤ ((a : Nat) : Int)) ((-2147483648 ≤ 40 * ((o : Nat) : Int) ∧ 40 * ((o : Nat) : Int) ≤ 2147483647) ∧ (((40 * o : Nat) : Int) + 40 ≤ 80) ∧ Q (.inl none) S (cpJ J 286 0 284 (40 * o) 40)) ((-2147483648 ≤ ((a : Nat) : Int) + 1 ∧ ((a : Nat) : Int) + 1 ≤ 2147483647) ∧ V w 2 mX3_classes 33 [some (vR 84), some (vI ((o : Nat) : Int)), some (vI ((a : Nat) : Int)), some (vI ((a + 1 : Nat) : Int))] [] S J Q)) :
    V w 2 mX3_classes 23 [some (vR 84), some (vI ((o : Nat) : Int)), some (vI ((a : Nat) : Int)), none] [] S J Q := by
  refine v_shp (fun hs0 => ?_)
  refine v_iload_n dX3_classes_23 rfl ?_
  refine v_bipush dX3_classes_24 (by decide) (in_lit (by decide)) ?_
  obtain ⟨K1, K2⟩ := K
  refine v_icmp_ge 76 dX3_classes_26 (by decide) (fun c1 => ?_) (fun c1 => ?_)
  · have K := K1 c1
    refine v_aload_n dX3_classes_76 rfl ?_
    refine v_getR dX3_classes_77 frX3_46_3 rfl (L_84 hL).1 (LR_84_12 hL) (Or.inl rfl) ?_
    refine v_iconst dX3_classes_80 (in_lit (by decide)) ?_
    refine v_aload_n dX3_classes_81 rfl ?_
    refine v_getR dX3_classes_82 frX3_40_3 rfl (L_84 hL).1 (LR_84_10 hL) (Or.inl rfl) ?_
    refine v_bipush dX3_classes_85 (by decide) (in_lit (by decide)) ?_
    refine v_iload_n dX3_classes_87 rfl ?_
    obtain ⟨o1, K⟩ := K
    refine v_imul dX3_classes_88 o1 ?_
    show V w 2 mX3_classes 89 [some (vR 84), some (vI ((o : Nat) : Int)), some (vI ((a : Nat) : Int)), none] [vI ((40 * o : Nat) : Int), vR 284, vI 0, vR 286] S J Q
    refine v_bipush dX3_classes_89 (by decide) (in_lit (by decide)) ?_
    obtain ⟨o2, K⟩ := K
    refine v_acopyI dX3_classes_91 q1107 (L_286 hL).1 (L_284 hL).1 (by decide) (by omega) (by decide) (by rw [(nci (L_286 hL).2)]; exact (by decide)) (by rw [(nci (L_284 hL).2)]; exact o2) (Nat.le_of_ble_eq_true rfl) (Nat.le_of_ble_eq_true rfl) ?_
    show V w 2 mX3_classes 94 [some (vR 84), some (vI ((o : Nat) : Int)), some (vI ((a : Nat) : Int)), none] [] S (cpJ J 286 0 284 (40 * o) 40) Q
    exact v_vret dX3_classes_94 rfl K
  · have K := K2 c1
    refine v_iload_n dX3_classes_29 rfl ?_
    refine v_iconst dX3_classes_30 (in_lit (by decide)) ?_
    obtain ⟨o3, K⟩ := K
    refine v_iadd dX3_classes_31 o3 ?_
    show V w 2 mX3_classes 32 [some (vR 84), some (vI ((o : Nat) : Int)), some (vI ((a : Nat) : Int)), none] [vI ((a + 1 : Nat) : Int)] S J Q
    refine v_istore_n dX3_classes_32 (Nat.le_of_ble_eq_true rfl) ?_
    show V w 2 mX3_classes 33 [some (vR 84), some (vI ((o : Nat) : Int)), some (vI ((a : Nat) : Int)), some (vI ((a + 1 : Nat) : Int))] [] S J Q
    exact K
theorem gX3_classes_33 {w : Wd} {S : Sh} {J : Jm} {Q : Out → Sh → Jm → Prop} (hL : Lay S) (o : Nat) (a : Nat) (b : Nat)
    (K : Br (40 ≤ ((b : Nat) : Int)) ((-2147483648 ≤ ((a : Nat) : Int) + 1 ∧ ((a : Nat) : Int) + 1 ≤ 2147483647) ∧ V w 2 mX3_classes 23 [some (vR 84), some (vI ((o : Nat) : Int)), some (vI ((a + 1 : Nat) : Int)), none] [] S J Q) (((0 ≤ ((o : Nat) : Int) ∧ ((o : Nat) : Int) < 2) ∧ (0 ≤ ((a : Nat) : Int) ∧ ((a : Nat) : Int) < 40) ∧ (0 ≤ ((b : Nat) : Int) ∧ ((b : Nat) : Int) < 40)) ∧ (0 ≤ 40 * (40 * ((o : Nat) : Int) + ((a : Nat) : Int)) + ((b : Nat) : Int)) ∧ (40 * (40 * ((o : Nat) : Int) + ((a : Nat) : Int)) + ((b : Nat) : Int) < 3200) ∧ Br (J 281 (40 * (40 * ((o : Nat) : Int) + ((a : Nat) : Int)) + ((b : Nat) : Int)).toNat = 0) ((-2147483648 ≤ ((b : Nat) : Int) + 1 ∧ ((b : Nat) : Int) + 1 ≤ 2147483647) ∧ V w 2 mX3_classes 33 [some (vR 84), some (vI ((o : Nat) : Int)), some (vI ((a : Nat) : Int)), some (vI ((b + 1 : Nat) : Int))] [] S J Q) ((286 = 85 ∨ 286 = 286) ∧ (0 ≤ ((a : Nat) : Int) ∧ ((a : Nat) : Int) < 40) ∧ (0 ≤ ((b : Nat) : Int) ∧ ((b : Nat) : Int) < 40) ∧ (∀ (J1 : Jm), PJn J 286 ((a : Nat) : Int) ((b : Nat) : Int) J1 → (-2147483648 ≤ ((b : Nat) : Int) + 1 ∧ ((b : Nat) : Int) + 1 ≤ 2147483647) ∧ V w 2 mX3_classes 33 [some (vR 84), some (vI ((o : Nat) : Int)), some (vI ((a : Nat) : Int)), some (vI ((b + 1 : Nat) : Int))] [] S J1 Q)))) :
    V w 2 mX3_classes 33 [some (vR 84), some (vI ((o : Nat) : Int)), some (vI ((a : Nat) : Int)), some (vI ((b : Nat) : Int))] [] S J Q := by
  refine v_shp (fun hs0 => ?_)
  refine v_iload_n dX3_classes_33 rfl ?_
  refine v_bipush dX3_classes_34 (by decide) (in_lit (by decide)) ?_
  obtain ⟨K1, K2⟩ := K
  refine v_icmp_ge 70 dX3_classes_36 (by decide) (fun c1 => ?_) (fun c1 => ?_)
  · have K := K1 c1
    obtain ⟨o1, K⟩ := K
    refine v_iinc dX3_classes_70 rfl o1 ?_
    show V w 2 mX3_classes 73 [some (vR 84), some (vI ((o : Nat) : Int)), some (vI ((a + 1 : Nat) : Int)), some (vI ((b : Nat) : Int))] [] S J Q
    refine v_goto 23 dX3_classes_73 (by decide) ?_
    exact v_forget (fg_some (fg_some (fg_some (fg_none fg_nil)))) K
  · have K := K2 c1
    refine v_aload_n dX3_classes_39 rfl ?_
    refine v_getR dX3_classes_40 frX3_30_3 rfl (L_84 hL).1 (LR_84_7 hL) (Or.inl rfl) ?_
    refine v_aload_n dX3_classes_43 rfl ?_
    refine v_iload_n dX3_classes_44 rfl ?_
    refine v_iload_n dX3_classes_45 rfl ?_
    refine v_iload_n dX3_classes_46 rfl ?_
    refine v_callV (d' := 0) (rest := [vR 281]) [vI ((o : Nat) : Int), vI ((a : Nat) : Int), vI ((b : Nat) : Int)] dX3_classes_47 vrX3_159_3 (L_84 hL).1 rfl rfl (one_I (one_I (one_I one_nil))) (Nat.le_of_ble_eq_true rfl) (Nat.le_of_ble_eq_true rfl) (Nat.le_of_ble_eq_true rfl) ?_
    obtain ⟨o2, K⟩ := K
    refine s_at hL ((o : Nat) : Int) ((a : Nat) : Int) ((b : Nat) : Int) o2 ?_
    show V w 2 mX3_classes 50 [some (vR 84), some (vI ((o : Nat) : Int)), some (vI ((a : Nat) : Int)), some (vI ((b : Nat) : Int))] [vI (40 * (40 * ((o : Nat) : Int) + ((a : Nat) : Int)) + ((b : Nat) : Int)), vR 281] S J Q
    obtain ⟨o3, K⟩ := K
    obtain ⟨o4, K⟩ := K
    refine ld_281 dX3_classes_50 hL o3 o4 ?_
    obtain ⟨K1, K2⟩ := K
    refine v_if_eq 64 dX3_classes_51 (by decide) (fun c2 => ?_) (fun c2 => ?_)
    · have K := K1 c2
      obtain ⟨o5, K⟩ := K
      refine v_iinc dX3_classes_64 rfl o5 ?_
      show V w 2 mX3_classes 67 [some (vR 84), some (vI ((o : Nat) : Int)), some (vI ((a : Nat) : Int)), some (vI ((b + 1 : Nat) : Int))] [] S J Q
      refine v_goto 33 dX3_classes_67 (by decide) ?_
      exact K
    · have K := K2 c2
      refine v_aload_n dX3_classes_54 rfl ?_
      refine v_aload_n dX3_classes_55 rfl ?_
      refine v_getR dX3_classes_56 frX3_46_3 rfl (L_84 hL).1 (LR_84_12 hL) (Or.inl rfl) ?_
      refine v_iload_n dX3_classes_59 rfl ?_
      refine v_iload_n dX3_classes_60 rfl ?_
      refine v_callV (d' := 1) (rest := []) [vR 286, vI ((a : Nat) : Int), vI ((b : Nat) : Int)] dX3_classes_61 vrX3_133_3 (L_84 hL).1 rfl rfl (one_O (one_I (one_I one_nil))) (Nat.le_of_ble_eq_true rfl) (Nat.le_of_ble_eq_true rfl) (Nat.le_of_ble_eq_true rfl) ?_
      obtain ⟨o6, K⟩ := K
      obtain ⟨o7, K⟩ := K
      obtain ⟨o8, K⟩ := K
      refine s_joinsX hL 286 ((a : Nat) : Int) ((b : Nat) : Int) o6 o7 o8 (fun J1 hp => ?_)
      have K := K J1 hp
      show V w 2 mX3_classes 64 [some (vR 84), some (vI ((o : Nat) : Int)), some (vI ((a : Nat) : Int)), some (vI ((b : Nat) : Int))] [] S J1 Q
      obtain ⟨o9, K⟩ := K
      refine v_iinc dX3_classes_64 rfl o9 ?_
      show V w 2 mX3_classes 67 [some (vR 84), some (vI ((o : Nat) : Int)), some (vI ((a : Nat) : Int)), some (vI ((b + 1 : Nat) : Int))] [] S J1 Q
      refine v_goto 33 dX3_classes_67 (by decide) ?_
      exact K

/-- the links as GridRoom has them -/
def xkE (J : Jm) (o u v : Nat) : Prop := u < 40 ∧ v < 40 ∧ J 281 (1600 * o + 40 * u + v) = 1
def PXc (J : Jm) (o : Nat) (J' : Jm) : Prop := (∀ x k, x ≠ 286 → ¬ (x = 284 ∧ 40 * o ≤ k ∧ k < 40 * o + 40) → J' x k = J x k) ∧ ∀ s : Nat, s < 40 → J' 284 (40 * o + s) = ((labOf (xkE J o) s : Nat) : Int)
theorem s_xclasses {w : Wd} {S : Sh} {J : Jm} {Q : Out → Sh → Jm → Prop} (hL : Lay S) (o : Int) (ho : 0 ≤ o ∧ o < 2) (h01 : ∀ q : Nat, q < 3200 → J 281 q = 0 ∨ J 281 q = 1) (hsy : ∀ u v, xkE J o.toNat u v → xkE J o.toNat v u) (K : ∀ J', PXc J o.toNat J' → Q (.inl none) S J') : V w 2 mX3_classes 0 (ent mX3_classes [vR 84, vI o]) [] S J Q := by
  obtain ⟨o, rfl⟩ : ∃ m : Nat, o = m := ⟨o.toNat, by omega⟩
  simp only [Int.toNat_natCast] at *
  have main : ∀ J1 : Jm, (∀ x k, x ≠ 286 → J1 x k = J x k) → (∀ s : Nat, s < 40 → J1 286 s = ((s : Nat) : Int)) → V w 2 mX3_classes 23 [some (vR 84), some (vI (o : Int)), some (vI ((0 : Nat) : Int)), none] [] S J1 Q := by
    intro J1 f1 h1
    refine up_loop (P := fun a J2 => (∀ x k, x ≠ 286 → J2 x k = J x k) ∧ ∃ L, LabW (xkE J o) (fun x y => xkE J o x y ∧ x < y ∧ x < a) L ∧ ∀ s : Nat, s < 40 → J2 286 s = ((L s : Nat) : Int)) 40
      (fun a J2 => V w 2 mX3_classes 23 [some (vR 84), some (vI (o : Int)), some (vI (a : Int)), none] [] S J2 Q) ?_ ?_ 0 J1 (by omega) ⟨f1, fun s => s, (LabW.start _).weaken (fun x y h => absurd h.2.2 (by omega)), h1⟩
    · intro a J2 ha ⟨f2, L, hW, hl⟩ ih
      refine gX3_classes_23 (J := J2) hL o a (br_n (by omega) ⟨by omega, ?_⟩)
      have go := up_loop (P := fun v J3 => (∀ x k, x ≠ 286 → J3 x k = J x k) ∧ ∃ L, LabW (xkE J o) (fun x y => xkE J o x y ∧ x < y ∧ (x < a ∨ (x = a ∧ y < a + 1 + v))) L ∧ ∀ s : Nat, s < 40 → J3 286 s = ((L s : Nat) : Int)) (39 - a)
        (fun v J3 => V w 2 mX3_classes 33 [some (vR 84), some (vI (o : Int)), some (vI (a : Int)), some (vI ((a + 1 + v : Nat) : Int))] [] S J3 Q) (by
          intro v J3 hv ⟨f3, L3, hW3, hl3⟩ ih3
          refine gX3_classes_33 (J := J3) hL o a (a + 1 + v) (br_n (by omega) ?_)
          rw [show (40 * (40 * (o : Int) + (a : Int)) + ((a + 1 + v : Nat) : Int)).toNat = 1600 * o + 40 * a + (a + 1 + v) by omega, f3 _ _ (by decide)]
          (repeat' (first | ((with_reducible refine And.intro ?_ ?_); omega)))
          refine br_i (fun c => ?_) (fun c => ?_)
          · (repeat' (first | ((with_reducible refine And.intro ?_ ?_); omega)))
            refine ih3 J3 ⟨f3, L3, hW3.weaken (fun x y h => ?_), hl3⟩
            by_cases q : x = a ∧ y = a + 1 + v
            · exfalso
              have := h.1.2.2
              rw [q.1, q.2] at this
              omega
            · exact Or.inl ⟨h.1, h.2.1, by omega⟩
          · (repeat' (first | ((with_reducible refine And.intro ?_ ?_); omega)))
            intro J4 hp
            (repeat' (first | ((with_reducible refine And.intro ?_ ?_); omega)))
            have hE : xkE J o a (a + 1 + v) := ⟨by omega, by omega, (h01 _ (by omega)).resolve_left c⟩
            have hj := hp.2 L3 hl3
            rw [Int.toNat_natCast, Int.toNat_natCast] at hj
            refine ih3 J4 ⟨fun x k q => by rw [hp.1 x k q, f3 x k q], joinL L3 (L3 a) (L3 (a + 1 + v)), (hW3.join hE (by omega) (by omega)).weaken (fun x y h => Or.inl ?_), hj⟩
            by_cases q : x = a ∧ y = a + 1 + v
            · exact Or.inr q
            · exact Or.inl ⟨h.1, h.2.1, by omega⟩) (by
          intro J3 ⟨f3, L3, hW3, hl3⟩
          refine gX3_classes_33 (J := J3) hL o a (a + 1 + (39 - a)) (br_y (by omega) ?_)
          (repeat' (first | ((with_reducible refine And.intro ?_ ?_); omega)))
          exact ih J3 ⟨f3, L3, hW3.weaken (fun x y h => Or.inl ⟨h.1, h.2.1, by have := h.1.2.1; have := h.2; omega⟩), hl3⟩)
      exact go 0 J2 (by omega) ⟨f2, L, hW.weaken (fun x y h => Or.inl ⟨h.1, h.2.1, by have := h.2; omega⟩), hl⟩
    · intro J2 ⟨f2, L, hW, hl⟩
      have hlab : IsLab (xkE J o) L := ⟨fun a b hE => by
          rcases Nat.lt_trichotomy a b with q | q | q
          · exact hW.1 a b ⟨hE, q, hE.1⟩
          · subst q; rfl
          · exact (hW.1 b a ⟨hsy a b hE, q, hE.2.1⟩).symm, hW.2.1, hW.2.2⟩
      refine gX3_classes_23 (J := J2) hL o 40 (br_y (by omega) ?_)
      (repeat' (first | ((with_reducible refine And.intro ?_ ?_); omega)))
      refine K _ ⟨fun x k q1 q2 => ?_, fun s hs => ?_⟩
      · unfold cpJ
        rw [if_neg q2, f2 x k q1]
      · unfold cpJ
        rw [if_pos ⟨rfl, by omega, by omega⟩, show 0 + (40 * o + s - 40 * o) = s by omega, hl s hs, labOf_eq hlab hs]
  refine gX3_classes_0 hL o ?_
  refine up_loop (P := fun s J2 => (∀ x k, x ≠ 286 → J2 x k = J x k) ∧ ∀ j : Nat, j < s → J2 286 j = ((j : Nat) : Int)) 40
    (fun s J2 => V w 2 mX3_classes 2 [some (vR 84), some (vI (o : Int)), some (vI (s : Int)), none] [] S J2 Q) ?_ ?_ 0 J (by omega) ⟨fun _ _ _ => rfl, fun j hj => absurd hj (by omega)⟩
  · intro s J2 hs ⟨f2, h2⟩ ih
    refine gX3_classes_2 (J := J2) hL o s (br_n (by omega) ?_)
    (repeat' (first | ((with_reducible refine And.intro ?_ ?_); omega)))
    refine ih _ ⟨fun x k q => by rw [up_na q, f2 x k q], fun j hj => ?_⟩
    by_cases e : j = s
    · rw [e, up_self]
    · rw [up_nk e]; exact h2 j (by omega)
  · intro J2 ⟨f2, h2⟩
    refine gX3_classes_2 (J := J2) hL o 40 (br_y (by omega) ?_)
    exact main J2 f2 h2
theorem gX6_counts_0_16 {w : Wd} {S : Sh} {J : Jm} {Q : Out → Sh → Jm → Prop} (hL : Lay S) (p : Nat) (known : Int)
    (K : (Sh.tg S p = 16) ∧ Br (known < J p 0) (Q (.inl (some (vI 0))) S J) (Br (J p 1 ≤ known) (Q (.inl (some (vI 0))) S J) (Q (.inl (some (vI 1))) S J))) :
    V w 0 mX6_counts 0 (ent mX6_counts [vR p, vI known]) [] S J Q := by
  show V w 0 mX6_counts 0 [some (vR p), some (vI known)] [] S J Q
  refine v_shp (fun hs0 => ?_)
  refine v_aload_n dX6_counts_0 rfl ?_
  obtain ⟨o1, K⟩ := K
  refine v_getI dX6_counts_1 frX6_16_16 rfl rfl o1 ?_
  refine v_iload_n dX6_counts_4 rfl ?_
  obtain ⟨K1, K2⟩ := K
  refine v_icmp_gt 20 dX6_counts_5 (by decide) (fun c1 => ?_) (fun c1 => ?_)
  · have K := K1 c1
    refine v_iconst dX6_counts_20 (in_lit (by decide)) ?_
    exact v_iret dX6_counts_21 rfl (by decide) K
  · have K := K2 c1
    refine v_aload_n dX6_counts_8 rfl ?_
    refine v_getI dX6_counts_9 frX6_10_16 rfl rfl o1 ?_
    refine v_iload_n dX6_counts_12 rfl ?_
    obtain ⟨K1, K2⟩ := K
    refine v_icmp_le 20 dX6_counts_13 (by decide) (fun c2 => ?_) (fun c2 => ?_)
    · have K := K1 c2
      refine v_iconst dX6_counts_20 (in_lit (by decide)) ?_
      exact v_iret dX6_counts_21 rfl (by decide) K
    · have K := K2 c2
      refine v_iconst dX6_counts_16 (in_lit (by decide)) ?_
      refine v_goto 21 dX6_counts_17 (by decide) ?_
      exact v_iret dX6_counts_21 rfl (by decide) K

theorem s_counts16 {w : Wd} {S : Sh} {J : Jm} {Q : Out → Sh → Jm → Prop} (hL : Lay S) (p : Nat) (known : Int) (ht : S.tg p = 16) (K1 : (J p 0 ≤ known ∧ known < J p 1) → Q (.inl (some (vI 1))) S J) (K2 : ¬ (J p 0 ≤ known ∧ known < J p 1) → Q (.inl (some (vI 0))) S J) : V w 0 mX6_counts 0 (ent mX6_counts [vR p, vI known]) [] S J Q := by
  refine gX6_counts_0_16 hL p known ⟨ht, br_i (fun c => K2 (by omega)) (fun c => br_i (fun c2 => K2 (by omega)) (fun c2 => K1 (by omega)))⟩
theorem gX3_whole_0 {w : Wd} {S : Sh} {J : Jm} {Q : Out → Sh → Jm → Prop} (hL : Lay S) (day : Int)
    (K : V w 3 mX3_be 0 (ent mX3_be [vR 84, vI day]) [] S J (CallQ w 4 mX3_whole 2 [some (vR 84), some (vI day), none, none] [] Q)) :
    V w 4 mX3_whole 0 (ent mX3_whole [vR 84, vI day]) [] S J Q := by
  show V w 4 mX3_whole 0 [some (vR 84), some (vI day), none, none] [] S J Q
  refine v_shp (fun hs0 => ?_)
  refine v_aload_n dX3_whole_0 rfl ?_
  refine v_iload_n dX3_whole_1 rfl ?_
  refine v_callV (d' := 3) (rest := []) [vI day] dX3_whole_2 vrX3_173_3 (L_84 hL).1 rfl rfl (one_I one_nil) (Nat.le_of_ble_eq_true rfl) (Nat.le_of_ble_eq_true rfl) (Nat.le_of_ble_eq_true rfl) ?_
  exact K
theorem gX3_whole_8 {w : Wd} {S : Sh} {J : Jm} {Q : Out → Sh → Jm → Prop} (hL : Lay S) (day : Int) (k : Nat)
    (K : Br (3200 ≤ ((k : Nat) : Int)) (V w 4 mX3_whole 39 [some (vR 84), some (vI day), some (vI 0), none] [] S J Q) ((((k : Nat) : Int) < 3200) ∧ (-2147483648 ≤ ((k : Nat) : Int) + 1 ∧ ((k : Nat) : Int) + 1 ≤ 2147483647) ∧ V w 4 mX3_whole 8 [some (vR 84), some (vI day), some (vI ((k + 1 : Nat) : Int)), none] [] S (up (up J 281 k 0) 282 k 0) Q)) :
    V w 4 mX3_whole 8 [some (vR 84), some (vI day), some (vI ((k : Nat) : Int)), none] [] S J Q := by
  refine v_shp (fun hs0 => ?_)
  refine v_iload_n dX3_whole_8 rfl ?_
  refine v_aload_n dX3_whole_9 rfl ?_
  refine v_getR dX3_whole_10 frX3_30_3 rfl (L_84 hL).1 (LR_84_7 hL) (Or.inl rfl) ?_
  refine v_alen dX3_whole_13 (by rw [(L_281 hL).1]; rfl) ?_
  rw [(L_281 hL).2]
  show V w 4 mX3_whole 14 [some (vR 84), some (vI day), some (vI ((k : Nat) : Int)), none] [vI 3200, vI ((k : Nat) : Int)] S J Q
  obtain ⟨K1, K2⟩ := K
  refine v_icmp_ge 37 dX3_whole_14 (by decide) (fun c1 => ?_) (fun c1 => ?_)
  · have K := K1 c1
    refine v_iconst dX3_whole_37 (in_lit (by decide)) ?_
    refine v_istore_n dX3_whole_38 (Nat.le_of_ble_eq_true rfl) ?_
    show V w 4 mX3_whole 39 [some (vR 84), some (vI day), some (vI 0), none] [] S J Q
    exact K
  · have K := K2 c1
    refine v_aload_n dX3_whole_17 rfl ?_
    refine v_getR dX3_whole_18 frX3_30_3 rfl (L_84 hL).1 (LR_84_7 hL) (Or.inl rfl) ?_
    refine v_iload_n dX3_whole_21 rfl ?_
    refine v_iconst dX3_whole_22 (in_lit (by decide)) ?_
    obtain ⟨o1, K⟩ := K
    refine st_281 dX3_whole_23 hL (by omega) o1 (zfit_bool (by decide)) ?_
    show V w 4 mX3_whole 24 [some (vR 84), some (vI day), some (vI ((k : Nat) : Int)), none] [] S (up J 281 k 0) Q
    refine v_aload_n dX3_whole_24 rfl ?_
    refine v_getR dX3_whole_25 frX3_34_3 rfl (L_84 hL).1 (LR_84_8 hL) (Or.inl rfl) ?_
    refine v_iload_n dX3_whole_28 rfl ?_
    refine v_iconst dX3_whole_29 (in_lit (by decide)) ?_
    refine st_282 dX3_whole_30 hL (by omega) o1 (zfit_bool (by decide)) ?_
    show V w 4 mX3_whole 31 [some (vR 84), some (vI day), some (vI ((k : Nat) : Int)), none] [] S (up (up J 281 k 0) 282 k 0) Q
    obtain ⟨o2, K⟩ := K
    refine v_iinc dX3_whole_31 rfl o2 ?_
    show V w 4 mX3_whole 34 [some (vR 84), some (vI day), some (vI ((k + 1 : Nat) : Int)), none] [] S (up (up J 281 k 0) 282 k 0) Q
    refine v_goto 8 dX3_whole_34 (by decide) ?_
    exact K
theorem gX3_whole_39 {w : Wd} {S : Sh} {J : Jm} {Q : Out → Sh → Jm → Prop} (hL : Lay S) (day : Int) (k : Nat)
    (K : ∃ r1 : Nat, Sh.rf S 84 6 = some r1 ∧ (Sh.tg S r1 = 2) ∧ ∃ r3 : Nat, Sh.rf S r1 0 = some r3 ∧ (Sh.tg S r3 = 24) ∧ Br (J r3 2 ≤ ((k : Nat) : Int)) (V w 4 mX3_whole 96 [some (vR 84), some (vI day), some (vI 0), none] [] S J Q) (∃ r5 : Nat, Sh.rf S 84 6 = some r5 ∧ (Sh.tg S r5 = 2) ∧ ∃ r7 : Nat, Sh.rf S r5 0 = some r7 ∧ (Sh.tg S r7 = 24) ∧ (GetOk S J r7 ((k : Nat) : Int)) ∧ (Sh.tg S (eA S r7 (((k : Nat) : Int)).toNat) = 15 ∨ Sh.tg S (eA S r7 (((k : Nat) : Int)).toNat) = 13 ∨ Sh.tg S (eA S r7 (((k : Nat) : Int)).toNat) = 14) ∧ Br (Sh.tg S (eA S r7 (((k : Nat) : Int)).toNat) = 15) (∃ r11 : Nat, Sh.rf S 84 6 = some r11 ∧ (Sh.tg S r11 = 2) ∧ ∃ r13 : Nat, Sh.rf S r11 0 = some r13 ∧ (Sh.tg S r13 = 24) ∧ (GetOk S J r13 ((k : Nat) : Int)) ∧ (Sh.tg S (eA S r13 (((k : Nat) : Int)).toNat) = 15) ∧ V w 2 mX3_links 0 (ent mX3_links [vR 84, vR (eA S r13 (((k : Nat) : Int)).toNat)]) [] S J (CallQ w 4 mX3_whole 85 [some (vR 84), some (vI day), some (vI ((k : Nat) : Int)), none] [] Q)) ((-2147483648 ≤ ((k : Nat) : Int) + 1 ∧ ((k : Nat) : Int) + 1 ≤ 2147483647) ∧ V w 4 mX3_whole 39 [some (vR 84), some (vI day), some (vI ((k + 1 : Nat) : Int)), none] [] S J Q))) :
    V w 4 mX3_whole 39 [some (vR 84), some (vI day), some (vI ((k : Nat) : Int)), none] [] S J Q := by
  refine v_shp (fun hs0 => ?_)
  refine v_iload_n dX3_whole_39 rfl ?_
  refine v_aload_n dX3_whole_40 rfl ?_
  obtain ⟨r1, er1, K⟩ := K
  refine v_getR dX3_whole_41 frX3_66_3 rfl (L_84 hL).1 er1 (Or.inr (fun q => by cases q)) ?_
  obtain ⟨o2, K⟩ := K
  obtain ⟨r3, er3, K⟩ := K
  refine v_getR dX3_whole_44 frX3_177_2 rfl o2 er3 (Or.inr (fun q => by cases q)) ?_
  obtain ⟨o4, K⟩ := K
  refine v_callV (d' := 0) (rest := [vI ((k : Nat) : Int)]) [] dX3_whole_47 vrX3_73_24 o4 rfl rfl one_nil (Nat.le_of_ble_eq_true rfl) (Nat.le_of_ble_eq_true rfl) (Nat.le_of_ble_eq_true rfl) ?_
  refine s_size hL r3 o4 ?_
  show V w 4 mX3_whole 50 [some (vR 84), some (vI day), some (vI ((k : Nat) : Int)), none] [vI (J r3 2), vI ((k : Nat) : Int)] S J Q
  obtain ⟨K1, K2⟩ := K
  refine v_icmp_ge 94 dX3_whole_50 (by decide) (fun c1 => ?_) (fun c1 => ?_)
  · have K := K1 c1
    refine v_iconst dX3_whole_94 (in_lit (by decide)) ?_
    refine v_istore_n dX3_whole_95 (Nat.le_of_ble_eq_true rfl) ?_
    show V w 4 mX3_whole 96 [some (vR 84), some (vI day), some (vI 0), none] [] S J Q
    exact K
  · have K := K2 c1
    refine v_aload_n dX3_whole_53 rfl ?_
    obtain ⟨r5, er5, K⟩ := K
    refine v_getR dX3_whole_54 frX3_66_3 rfl (L_84 hL).1 er5 (Or.inr (fun q => by cases q)) ?_
    obtain ⟨o6, K⟩ := K
    obtain ⟨r7, er7, K⟩ := K
    refine v_getR dX3_whole_57 frX3_177_2 rfl o6 er7 (Or.inr (fun q => by cases q)) ?_
    refine v_iload_n dX3_whole_60 rfl ?_
    obtain ⟨o8, K⟩ := K
    refine v_callV (d' := 2) (rest := []) [vI ((k : Nat) : Int)] dX3_whole_61 vrX3_78_24 o8 rfl rfl (one_I one_nil) (Nat.le_of_ble_eq_true rfl) (Nat.le_of_ble_eq_true rfl) (Nat.le_of_ble_eq_true rfl) ?_
    obtain ⟨o9, K⟩ := K
    refine s_get hL r7 ((k : Nat) : Int) o9 ?_
    show V w 4 mX3_whole 64 [some (vR 84), some (vI day), some (vI ((k : Nat) : Int)), none] [vR (eA S r7 (((k : Nat) : Int)).toNat)] S J Q
    obtain ⟨o10, K⟩ := K
    obtain ⟨K1, K2⟩ := K
    by_cases c2 : Sh.tg S (eA S r7 (((k : Nat) : Int)).toNat) = 15
    · have K := K1 c2
      refine v_instE dX3_whole_64 q1086 c2 rfl ?_
      refine v_if_eq 88 dX3_whole_67 (by decide) (fun cQ => absurd cQ (by decide)) (fun _ => ?_)
      refine v_aload_n dX3_whole_70 rfl ?_
      refine v_aload_n dX3_whole_71 rfl ?_
      obtain ⟨r11, er11, K⟩ := K
      refine v_getR dX3_whole_72 frX3_66_3 rfl (L_84 hL).1 er11 (Or.inr (fun q => by cases q)) ?_
      obtain ⟨o12, K⟩ := K
      obtain ⟨r13, er13, K⟩ := K
      refine v_getR dX3_whole_75 frX3_177_2 rfl o12 er13 (Or.inr (fun q => by cases q)) ?_
      refine v_iload_n dX3_whole_78 rfl ?_
      obtain ⟨o14, K⟩ := K
      refine v_callV (d' := 2) (rest := [vR 84]) [vI ((k : Nat) : Int)] dX3_whole_79 vrX3_78_24 o14 rfl rfl (one_I one_nil) (Nat.le_of_ble_eq_true rfl) (Nat.le_of_ble_eq_true rfl) (Nat.le_of_ble_eq_true rfl) ?_
      obtain ⟨o15, K⟩ := K
      refine s_get hL r13 ((k : Nat) : Int) o15 ?_
      show V w 4 mX3_whole 82 [some (vR 84), some (vI day), some (vI ((k : Nat) : Int)), none] [vR (eA S r13 (((k : Nat) : Int)).toNat), vR 84] S J Q
      obtain ⟨o16, K⟩ := K
      refine v_castE dX3_whole_82 q1086 o16 rfl ?_
      refine v_callV (d' := 2) (rest := []) [vR (eA S r13 (((k : Nat) : Int)).toNat)] dX3_whole_85 vrX3_180_3 (L_84 hL).1 rfl rfl (one_O one_nil) (Nat.le_of_ble_eq_true rfl) (Nat.le_of_ble_eq_true rfl) (Nat.le_of_ble_eq_true rfl) ?_
      exact K
    · have K := K2 c2
      refine v_instJ dX3_whole_64 q1086 (o10.resolve_left c2) ?_
      refine v_if_eq 88 dX3_whole_67 (by decide) (fun _ => ?_) (fun cQ => absurd cQ (by decide))
      obtain ⟨o17, K⟩ := K
      refine v_iinc dX3_whole_88 rfl o17 ?_
      show V w 4 mX3_whole 91 [some (vR 84), some (vI day), some (vI ((k + 1 : Nat) : Int)), none] [] S J Q
      refine v_goto 39 dX3_whole_91 (by decide) ?_
      exact K
theorem gX3_whole_96 {w : Wd} {S : Sh} {J : Jm} {Q : Out → Sh → Jm → Prop} (hL : Lay S) (day : Int) (k : Nat)
    (K : Br (J 69 2 ≤ ((k : Nat) : Int)) (V w 4 mX3_whole 206 [some (vR 84), none, some (vI 0), none] [] S J Q) ((GetOk S J 69 ((k : Nat) : Int)) ∧ (Sh.tg S (eA S 69 (((k : Nat) : Int)).toNat) = 16) ∧ Br (J (eA S 69 (((k : Nat) : Int)).toNat) 0 ≤ day ∧ day < J (eA S 69 (((k : Nat) : Int)).toNat) 1) ((0 ≤ J (eA S 69 (((k : Nat) : Int)).toNat) 3) ∧ (J (eA S 69 (((k : Nat) : Int)).toNat) 3 < 40) ∧ (0 ≤ J (eA S 69 (((k : Nat) : Int)).toNat) 4) ∧ (J (eA S 69 (((k : Nat) : Int)).toNat) 4 < 40) ∧ Br (J 85 (J (eA S 69 (((k : Nat) : Int)).toNat) 3).toNat = J 85 (J (eA S 69 (((k : Nat) : Int)).toNat) 4).toNat) ((-2147483648 ≤ ((k : Nat) : Int) + 1 ∧ ((k : Nat) : Int) + 1 ≤ 2147483647) ∧ V w 4 mX3_whole 96 [some (vR 84), some (vI day), some (vI ((k + 1 : Nat) : Int)), none] [] S J Q) (Br (J (eA S 69 (((k : Nat) : Int)).toNat) 5 = 0) ((282 = 281 ∨ 282 = 282) ∧ (0 ≤ (J (eA S 69 (((k : Nat) : Int)).toNat) 2) ∧ (J (eA S 69 (((k : Nat) : Int)).toNat) 2) < 2) ∧ (0 ≤ (J 85 (J (eA S 69 (((k : Nat) : Int)).toNat) 3).toNat) ∧ (J 85 (J (eA S 69 (((k : Nat) : Int)).toNat) 3).toNat) < 40) ∧ (0 ≤ (J 85 (J (eA S 69 (((k : Nat) : Int)).toNat) 4).toNat) ∧ (J 85 (J (eA S 69 (((k : Nat) : Int)).toNat) 4).toNat) < 40) ∧ (∀ (J1 : Jm), J1 = up (up J 282 (1600 * ((J (eA S 69 (((k : Nat) : Int)).toNat) 2)).toNat + 40 * ((J 85 (J (eA S 69 (((k : Nat) : Int)).toNat) 3).toNat)).toNat + ((J 85 (J (eA S 69 (((k : Nat) : Int)).toNat) 4).toNat)).toNat) 1) 282 (1600 * ((J (eA S 69 (((k : Nat) : Int)).toNat) 2)).toNat + 40 * ((J 85 (J (eA S 69 (((k : Nat) : Int)).toNat) 4).toNat)).toNat + ((J 85 (J (eA S 69 (((k : Nat) : Int)).toNat) 3).toNat)).toNat) 1 → (-2147483648 ≤ ((k : Nat) : Int) + 1 ∧ ((k : Nat) : Int) + 1 ≤ 2147483647) ∧ V w 4 mX3_whole 96 [some (vR 84), some (vI day), some (vI ((k + 1 : Nat) : Int)), none] [] S J1 Q)) ((281 = 281 ∨ 281 = 282) ∧ (0 ≤ (J (eA S 69 (((k : Nat) : Int)).toNat) 2) ∧ (J (eA S 69 (((k : Nat) : Int)).toNat) 2) < 2) ∧ (0 ≤ (J 85 (J (eA S 69 (((k : Nat) : Int)).toNat) 3).toNat) ∧ (J 85 (J (eA S 69 (((k : Nat) : Int)).toNat) 3).toNat) < 40) ∧ (0 ≤ (J 85 (J (eA S 69 (((k : Nat) : Int)).toNat) 4).toNat) ∧ (J 85 (J (eA S 69 (((k : Nat) : Int)).toNat) 4).toNat) < 40) ∧ (∀ (J2 : Jm), J2 = up (up J 281 (1600 * ((J (eA S 69 (((k : Nat) : Int)).toNat) 2)).toNat + 40 * ((J 85 (J (eA S 69 (((k : Nat) : Int)).toNat) 3).toNat)).toNat + ((J 85 (J (eA S 69 (((k : Nat) : Int)).toNat) 4).toNat)).toNat) 1) 281 (1600 * ((J (eA S 69 (((k : Nat) : Int)).toNat) 2)).toNat + 40 * ((J 85 (J (eA S 69 (((k : Nat) : Int)).toNat) 4).toNat)).toNat + ((J 85 (J (eA S 69 (((k : Nat) : Int)).toNat) 3).toNat)).toNat) 1 → (-2147483648 ≤ ((k : Nat) : Int) + 1 ∧ ((k : Nat) : Int) + 1 ≤ 2147483647) ∧ V w 4 mX3_whole 96 [some (vR 84), some (vI day), some (vI ((k + 1 : Nat) : Int)), none] [] S J2 Q)))) ((-2147483648 ≤ ((k : Nat) : Int) + 1 ∧ ((k : Nat) : Int) + 1 ≤ 2147483647) ∧ V w 4 mX3_whole 96 [some (vR 84), some (vI day), some (vI ((k + 1 : Nat) : Int)), none] [] S J Q))) :
    V w 4 mX3_whole 96 [some (vR 84), some (vI day), some (vI ((k : Nat) : Int)), none] [] S J Q := by
  refine v_shp (fun hs0 => ?_)
  refine v_iload_n dX3_whole_96 rfl ?_
  refine v_aload_n dX3_whole_97 rfl ?_
  refine v_getR dX3_whole_98 frX3_3_3 rfl (L_84 hL).1 (LR_84_22 hL) (Or.inl rfl) ?_
  refine v_getR dX3_whole_101 frX3_184_1 rfl (L_64 hL).1 (LR_64_3 hL) (Or.inl rfl) ?_
  refine v_callV (d' := 0) (rest := [vI ((k : Nat) : Int)]) [] dX3_whole_104 vrX3_73_24 (L_69 hL).1 rfl rfl one_nil (Nat.le_of_ble_eq_true rfl) (Nat.le_of_ble_eq_true rfl) (Nat.le_of_ble_eq_true rfl) ?_
  refine s_size hL 69 (L_69 hL).1 ?_
  show V w 4 mX3_whole 107 [some (vR 84), some (vI day), some (vI ((k : Nat) : Int)), none] [vI (J 69 2), vI ((k : Nat) : Int)] S J Q
  obtain ⟨K1, K2⟩ := K
  refine v_icmp_ge 204 dX3_whole_107 (by decide) (fun c1 => ?_) (fun c1 => ?_)
  · have K := K1 c1
    refine v_iconst dX3_whole_204 (in_lit (by decide)) ?_
    refine v_istore_n dX3_whole_205 (Nat.le_of_ble_eq_true rfl) ?_
    show V w 4 mX3_whole 206 [some (vR 84), some (vI day), some (vI 0), none] [] S J Q
    exact v_forget (fg_some (fg_none (fg_some (fg_none fg_nil)))) K
  · have K := K2 c1
    refine v_aload_n dX3_whole_110 rfl ?_
    refine v_getR dX3_whole_111 frX3_3_3 rfl (L_84 hL).1 (LR_84_22 hL) (Or.inl rfl) ?_
    refine v_getR dX3_whole_114 frX3_184_1 rfl (L_64 hL).1 (LR_64_3 hL) (Or.inl rfl) ?_
    refine v_iload_n dX3_whole_117 rfl ?_
    refine v_callV (d' := 2) (rest := []) [vI ((k : Nat) : Int)] dX3_whole_118 vrX3_78_24 (L_69 hL).1 rfl rfl (one_I one_nil) (Nat.le_of_ble_eq_true rfl) (Nat.le_of_ble_eq_true rfl) (Nat.le_of_ble_eq_true rfl) ?_
    obtain ⟨o1, K⟩ := K
    refine s_get hL 69 ((k : Nat) : Int) o1 ?_
    show V w 4 mX3_whole 121 [some (vR 84), some (vI day), some (vI ((k : Nat) : Int)), none] [vR (eA S 69 (((k : Nat) : Int)).toNat)] S J Q
    obtain ⟨o2, K⟩ := K
    refine v_castE dX3_whole_121 q1099 o2 rfl ?_
    refine v_astore_n dX3_whole_124 (Nat.le_of_ble_eq_true rfl) ?_
    show V w 4 mX3_whole 125 [some (vR 84), some (vI day), some (vI ((k : Nat) : Int)), some (vR (eA S 69 (((k : Nat) : Int)).toNat))] [] S J Q
    refine v_aload_n dX3_whole_125 rfl ?_
    refine v_iload_n dX3_whole_126 rfl ?_
    refine v_callU (d' := 0) (rest := []) [vI day] dX3_whole_127 urX3_189_16 o2 rfl rfl (one_I one_nil) (Nat.le_of_ble_eq_true rfl) (Nat.le_of_ble_eq_true rfl) (Nat.le_of_ble_eq_true rfl) ?_
    obtain ⟨K1, K2⟩ := K
    refine s_counts16 hL (eA S 69 (((k : Nat) : Int)).toNat) day o2 (fun c2 => ?_) (fun c2 => ?_)
    · have K := K1 c2
      show V w 4 mX3_whole 130 [some (vR 84), some (vI day), some (vI ((k : Nat) : Int)), some (vR (eA S 69 (((k : Nat) : Int)).toNat))] [vI 1] S J Q
      refine v_if_eq 198 dX3_whole_130 (by decide) (fun cQ => absurd cQ (by decide)) (fun _ => ?_)
      refine v_aload_n dX3_whole_133 rfl ?_
      refine v_getR dX3_whole_134 frX3_15_3 rfl (L_84 hL).1 (LR_84_0 hL) (Or.inl rfl) ?_
      refine v_aload_n dX3_whole_137 rfl ?_
      refine v_getI dX3_whole_138 frX3_190_16 rfl rfl o2 ?_
      obtain ⟨o3, K⟩ := K
      obtain ⟨o4, K⟩ := K
      refine ld_85 dX3_whole_141 hL o3 o4 ?_
      refine v_aload_n dX3_whole_142 rfl ?_
      refine v_getR dX3_whole_143 frX3_15_3 rfl (L_84 hL).1 (LR_84_0 hL) (Or.inl rfl) ?_
      refine v_aload_n dX3_whole_146 rfl ?_
      refine v_getI dX3_whole_147 frX3_193_16 rfl rfl o2 ?_
      obtain ⟨o5, K⟩ := K
      obtain ⟨o6, K⟩ := K
      refine ld_85 dX3_whole_150 hL o5 o6 ?_
      obtain ⟨K1, K2⟩ := K
      refine v_icmp_eq 198 dX3_whole_151 (by decide) (fun c3 => ?_) (fun c3 => ?_)
      · have K := K1 c3
        obtain ⟨o7, K⟩ := K
        refine v_iinc dX3_whole_198 rfl o7 ?_
        show V w 4 mX3_whole 201 [some (vR 84), some (vI day), some (vI ((k + 1 : Nat) : Int)), some (vR (eA S 69 (((k : Nat) : Int)).toNat))] [] S J Q
        refine v_goto 96 dX3_whole_201 (by decide) ?_
        exact v_forget (fg_some (fg_some (fg_some (fg_none fg_nil)))) K
      · have K := K2 c3
        refine v_aload_n dX3_whole_154 rfl ?_
        refine v_aload_n dX3_whole_155 rfl ?_
        refine v_getI dX3_whole_156 frX3_196_16 rfl rfl o2 ?_
        obtain ⟨K1, K2⟩ := K
        refine v_if_eq 169 dX3_whole_159 (by decide) (fun c4 => ?_) (fun c4 => ?_)
        · have K := K1 c4
          refine v_aload_n dX3_whole_169 rfl ?_
          refine v_getR dX3_whole_170 frX3_34_3 rfl (L_84 hL).1 (LR_84_8 hL) (Or.inl rfl) ?_
          refine v_aload_n dX3_whole_173 rfl ?_
          refine v_getI dX3_whole_174 frX3_200_16 rfl rfl o2 ?_
          refine v_aload_n dX3_whole_177 rfl ?_
          refine v_getR dX3_whole_178 frX3_15_3 rfl (L_84 hL).1 (LR_84_0 hL) (Or.inl rfl) ?_
          refine v_aload_n dX3_whole_181 rfl ?_
          refine v_getI dX3_whole_182 frX3_190_16 rfl rfl o2 ?_
          refine ld_85 dX3_whole_185 hL o3 o4 ?_
          refine v_aload_n dX3_whole_186 rfl ?_
          refine v_getR dX3_whole_187 frX3_15_3 rfl (L_84 hL).1 (LR_84_0 hL) (Or.inl rfl) ?_
          refine v_aload_n dX3_whole_190 rfl ?_
          refine v_getI dX3_whole_191 frX3_193_16 rfl rfl o2 ?_
          refine ld_85 dX3_whole_194 hL o5 o6 ?_
          refine v_callV (d' := 1) (rest := []) [vR 282, vI (J (eA S 69 (((k : Nat) : Int)).toNat) 2), vI (J 85 (J (eA S 69 (((k : Nat) : Int)).toNat) 3).toNat), vI (J 85 (J (eA S 69 (((k : Nat) : Int)).toNat) 4).toNat)] dX3_whole_195 vrX3_169_3 (L_84 hL).1 rfl rfl (one_O (one_I (one_I (one_I one_nil)))) (Nat.le_of_ble_eq_true rfl) (Nat.le_of_ble_eq_true rfl) (Nat.le_of_ble_eq_true rfl) ?_
          obtain ⟨o8, K⟩ := K
          obtain ⟨o9, K⟩ := K
          obtain ⟨o10, K⟩ := K
          obtain ⟨o11, K⟩ := K
          refine s_putsX hL 282 (J (eA S 69 (((k : Nat) : Int)).toNat) 2) (J 85 (J (eA S 69 (((k : Nat) : Int)).toNat) 3).toNat) (J 85 (J (eA S 69 (((k : Nat) : Int)).toNat) 4).toNat) o8 o9 o10 o11 (fun J1 hp => ?_)
          have K := K J1 hp
          show V w 4 mX3_whole 198 [some (vR 84), some (vI day), some (vI ((k : Nat) : Int)), some (vR (eA S 69 (((k : Nat) : Int)).toNat))] [] S J1 Q
          obtain ⟨o12, K⟩ := K
          refine v_iinc dX3_whole_198 rfl o12 ?_
          show V w 4 mX3_whole 201 [some (vR 84), some (vI day), some (vI ((k + 1 : Nat) : Int)), some (vR (eA S 69 (((k : Nat) : Int)).toNat))] [] S J1 Q
          refine v_goto 96 dX3_whole_201 (by decide) ?_
          exact v_forget (fg_some (fg_some (fg_some (fg_none fg_nil)))) K
        · have K := K2 c4
          refine v_aload_n dX3_whole_162 rfl ?_
          refine v_getR dX3_whole_163 frX3_30_3 rfl (L_84 hL).1 (LR_84_7 hL) (Or.inl rfl) ?_
          refine v_goto 173 dX3_whole_166 (by decide) ?_
          refine v_aload_n dX3_whole_173 rfl ?_
          refine v_getI dX3_whole_174 frX3_200_16 rfl rfl o2 ?_
          refine v_aload_n dX3_whole_177 rfl ?_
          refine v_getR dX3_whole_178 frX3_15_3 rfl (L_84 hL).1 (LR_84_0 hL) (Or.inl rfl) ?_
          refine v_aload_n dX3_whole_181 rfl ?_
          refine v_getI dX3_whole_182 frX3_190_16 rfl rfl o2 ?_
          refine ld_85 dX3_whole_185 hL o3 o4 ?_
          refine v_aload_n dX3_whole_186 rfl ?_
          refine v_getR dX3_whole_187 frX3_15_3 rfl (L_84 hL).1 (LR_84_0 hL) (Or.inl rfl) ?_
          refine v_aload_n dX3_whole_190 rfl ?_
          refine v_getI dX3_whole_191 frX3_193_16 rfl rfl o2 ?_
          refine ld_85 dX3_whole_194 hL o5 o6 ?_
          refine v_callV (d' := 1) (rest := []) [vR 281, vI (J (eA S 69 (((k : Nat) : Int)).toNat) 2), vI (J 85 (J (eA S 69 (((k : Nat) : Int)).toNat) 3).toNat), vI (J 85 (J (eA S 69 (((k : Nat) : Int)).toNat) 4).toNat)] dX3_whole_195 vrX3_169_3 (L_84 hL).1 rfl rfl (one_O (one_I (one_I (one_I one_nil)))) (Nat.le_of_ble_eq_true rfl) (Nat.le_of_ble_eq_true rfl) (Nat.le_of_ble_eq_true rfl) ?_
          obtain ⟨o13, K⟩ := K
          obtain ⟨o14, K⟩ := K
          obtain ⟨o15, K⟩ := K
          obtain ⟨o16, K⟩ := K
          refine s_putsX hL 281 (J (eA S 69 (((k : Nat) : Int)).toNat) 2) (J 85 (J (eA S 69 (((k : Nat) : Int)).toNat) 3).toNat) (J 85 (J (eA S 69 (((k : Nat) : Int)).toNat) 4).toNat) o13 o14 o15 o16 (fun J2 hp => ?_)
          have K := K J2 hp
          show V w 4 mX3_whole 198 [some (vR 84), some (vI day), some (vI ((k : Nat) : Int)), some (vR (eA S 69 (((k : Nat) : Int)).toNat))] [] S J2 Q
          obtain ⟨o17, K⟩ := K
          refine v_iinc dX3_whole_198 rfl o17 ?_
          show V w 4 mX3_whole 201 [some (vR 84), some (vI day), some (vI ((k + 1 : Nat) : Int)), some (vR (eA S 69 (((k : Nat) : Int)).toNat))] [] S J2 Q
          refine v_goto 96 dX3_whole_201 (by decide) ?_
          exact v_forget (fg_some (fg_some (fg_some (fg_none fg_nil)))) K
    · have K := K2 c2
      show V w 4 mX3_whole 130 [some (vR 84), some (vI day), some (vI ((k : Nat) : Int)), some (vR (eA S 69 (((k : Nat) : Int)).toNat))] [vI 0] S J Q
      refine v_if_eq 198 dX3_whole_130 (by decide) (fun _ => ?_) (fun cQ => absurd cQ (by decide))
      obtain ⟨o18, K⟩ := K
      refine v_iinc dX3_whole_198 rfl o18 ?_
      show V w 4 mX3_whole 201 [some (vR 84), some (vI day), some (vI ((k + 1 : Nat) : Int)), some (vR (eA S 69 (((k : Nat) : Int)).toNat))] [] S J Q
      refine v_goto 96 dX3_whole_201 (by decide) ?_
      exact v_forget (fg_some (fg_some (fg_some (fg_none fg_nil)))) K
theorem gX3_whole_206 {w : Wd} {S : Sh} {J : Jm} {Q : Out → Sh → Jm → Prop} (hL : Lay S) (o : Nat)
    (K : Br (2 ≤ ((o : Nat) : Int)) (Q (.inl (some (vR 84))) S J) ((0 ≤ ((o : Nat) : Int) ∧ ((o : Nat) : Int) < 2) ∧ (∀ q : Nat, q < 3200 → J 281 q = 0 ∨ J 281 q = 1) ∧ (∀ u v, xkE J (((o : Nat) : Int)).toNat u v → xkE J (((o : Nat) : Int)).toNat v u) ∧ (∀ (J1 : Jm), PXc J (((o : Nat) : Int)).toNat J1 → (-2147483648 ≤ ((o : Nat) : Int) + 1 ∧ ((o : Nat) : Int) + 1 ≤ 2147483647) ∧ V w 4 mX3_whole 206 [some (vR 84), none, some (vI ((o + 1 : Nat) : Int)), none] [] S J1 Q))) :
    V w 4 mX3_whole 206 [some (vR 84), none, some (vI ((o : Nat) : Int)), none] [] S J Q := by
  refine v_shp (fun hs0 => ?_)
  refine v_iload_n dX3_whole_206 rfl ?_
  refine v_iconst dX3_whole_207 (in_lit (by decide)) ?_
  obtain ⟨K1, K2⟩ := K
  refine v_icmp_ge 222 dX3_whole_208 (by decide) (fun c1 => ?_) (fun c1 => ?_)
  · have K := K1 c1
    refine v_aload_n dX3_whole_222 rfl ?_
    exact v_aret dX3_whole_223 rfl rfl K
  · have K := K2 c1
    refine v_aload_n dX3_whole_211 rfl ?_
    refine v_iload_n dX3_whole_212 rfl ?_
    refine v_callV (d' := 2) (rest := []) [vI ((o : Nat) : Int)] dX3_whole_213 vrX3_201_3 (L_84 hL).1 rfl rfl (one_I one_nil) (Nat.le_of_ble_eq_true rfl) (Nat.le_of_ble_eq_true rfl) (Nat.le_of_ble_eq_true rfl) ?_
    obtain ⟨o1, K⟩ := K
    obtain ⟨o2, K⟩ := K
    obtain ⟨o3, K⟩ := K
    refine s_xclasses hL ((o : Nat) : Int) o1 o2 o3 (fun J1 hp => ?_)
    have K := K J1 hp
    show V w 4 mX3_whole 216 [some (vR 84), none, some (vI ((o : Nat) : Int)), none] [] S J1 Q
    obtain ⟨o4, K⟩ := K
    refine v_iinc dX3_whole_216 rfl o4 ?_
    show V w 4 mX3_whole 219 [some (vR 84), none, some (vI ((o + 1 : Nat) : Int)), none] [] S J1 Q
    refine v_goto 206 dX3_whole_219 (by decide) ?_
    exact K
theorem gX3_whole_5 {w : Wd} {S : Sh} {J : Jm} {Q : Out → Sh → Jm → Prop} (hL : Lay S) (day : Int) (q : Nat)
    (K : V w 4 mX3_whole 8 [some (vR 84), some (vI day), some (vI 0), none] [] S J Q) :
    V w 4 mX3_whole 5 [some (vR 84), some (vI day), none, none] [vR q] S J Q := by
  refine v_shp (fun hs0 => ?_)
  refine v_pop dX3_whole_5 trivial ?_
  refine v_iconst dX3_whole_6 (in_lit (by decide)) ?_
  refine v_istore_n dX3_whole_7 (Nat.le_of_ble_eq_true rfl) ?_
  show V w 4 mX3_whole 8 [some (vR 84), some (vI day), some (vI 0), none] [] S J Q
  exact K
theorem gX3_whole_88 {w : Wd} {S : Sh} {J : Jm} {Q : Out → Sh → Jm → Prop} (hL : Lay S) (day : Int) (k : Nat)
    (K : (-2147483648 ≤ ((k : Nat) : Int) + 1 ∧ ((k : Nat) : Int) + 1 ≤ 2147483647) ∧ V w 4 mX3_whole 39 [some (vR 84), some (vI day), some (vI ((k + 1 : Nat) : Int)), none] [] S J Q) :
    V w 4 mX3_whole 88 [some (vR 84), some (vI day), some (vI ((k : Nat) : Int)), none] [] S J Q := by
  refine v_shp (fun hs0 => ?_)
  obtain ⟨o1, K⟩ := K
  refine v_iinc dX3_whole_88 rfl o1 ?_
  show V w 4 mX3_whole 91 [some (vR 84), some (vI day), some (vI ((k + 1 : Nat) : Int)), none] [] S J Q
  refine v_goto 39 dX3_whole_91 (by decide) ?_
  exact K
