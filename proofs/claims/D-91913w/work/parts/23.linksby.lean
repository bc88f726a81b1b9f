/-! the model: links by a clause -/
set_option maxRecDepth 100000
theorem gX5_links_2_0 {w : Wd} {S : Sh} {J : Jm} {Q : Out → Sh → Jm → Prop} (hL : Lay S) (o : Nat) (a : Nat) (b : Nat)
    (K : (-2147483648 ≤ 1600 * ((o : Nat) : Int) ∧ 1600 * ((o : Nat) : Int) ≤ 2147483647) ∧ (-2147483648 ≤ 40 * ((a : Nat) : Int) ∧ 40 * ((a : Nat) : Int) ≤ 2147483647) ∧ (-2147483648 ≤ ((1600 * o : Nat) : Int) + ((40 * a : Nat) : Int) ∧ ((1600 * o : Nat) : Int) + ((40 * a : Nat) : Int) ≤ 2147483647) ∧ (-2147483648 ≤ (((1600 * o) + (40 * a) : Nat) : Int) + ((b : Nat) : Int) ∧ (((1600 * o) + (40 * a) : Nat) : Int) + ((b : Nat) : Int) ≤ 2147483647) ∧ (((((1600 * o) + (40 * a)) + b : Nat) : Int) < 3200) ∧ (-2147483648 ≤ 1600 * ((o : Nat) : Int) ∧ 1600 * ((o : Nat) : Int) ≤ 2147483647) ∧ (-2147483648 ≤ 40 * ((b : Nat) : Int) ∧ 40 * ((b : Nat) : Int) ≤ 2147483647) ∧ (-2147483648 ≤ ((1600 * o : Nat) : Int) + ((40 * b : Nat) : Int) ∧ ((1600 * o : Nat) : Int) + ((40 * b : Nat) : Int) ≤ 2147483647) ∧ (-2147483648 ≤ (((1600 * o) + (40 * b) : Nat) : Int) + ((a : Nat) : Int) ∧ (((1600 * o) + (40 * b) : Nat) : Int) + ((a : Nat) : Int) ≤ 2147483647) ∧ (((((1600 * o) + (40 * b)) + a : Nat) : Int) < 3200) ∧ Q (.inl none) S (up (up J 341 (((1600 * o) + (40 * a)) + b) 1) 341 (((1600 * o) + (40 * b)) + a) 1)) :
    V w 0 mX5_links_2 0 (ent mX5_links_2 [vR 313, vI ((o : Nat) : Int), vI ((a : Nat) : Int), vI ((b : Nat) : Int)]) [] S J Q := by
  show V w 0 mX5_links_2 0 [some (vR 313), some (vI ((o : Nat) : Int)), some (vI ((a : Nat) : Int)), some (vI ((b : Nat) : Int))] [] S J Q
  refine v_aload_n dX5_links_2_0 rfl ?_
  refine v_getR dX5_links_2_1 frX5_100_5 rfl (L_313 hL).1 (LR_313_42 hL) (Or.inl rfl) ?_
  refine v_sipush dX5_links_2_4 (by decide) (in_lit (by decide)) ?_
  refine v_iload_n dX5_links_2_7 rfl ?_
  obtain ⟨o1, K⟩ := K
  refine v_imul dX5_links_2_8 o1 ?_
  show V w 0 mX5_links_2 9 [some (vR 313), some (vI ((o : Nat) : Int)), some (vI ((a : Nat) : Int)), some (vI ((b : Nat) : Int))] [vI ((1600 * o : Nat) : Int), vR 341] S J Q
  refine v_bipush dX5_links_2_9 (by decide) (in_lit (by decide)) ?_
  refine v_iload_n dX5_links_2_11 rfl ?_
  obtain ⟨o2, K⟩ := K
  refine v_imul dX5_links_2_12 o2 ?_
  show V w 0 mX5_links_2 13 [some (vR 313), some (vI ((o : Nat) : Int)), some (vI ((a : Nat) : Int)), some (vI ((b : Nat) : Int))] [vI ((40 * a : Nat) : Int), vI ((1600 * o : Nat) : Int), vR 341] S J Q
  obtain ⟨o3, K⟩ := K
  refine v_iadd dX5_links_2_13 o3 ?_
  show V w 0 mX5_links_2 14 [some (vR 313), some (vI ((o : Nat) : Int)), some (vI ((a : Nat) : Int)), some (vI ((b : Nat) : Int))] [vI (((1600 * o) + (40 * a) : Nat) : Int), vR 341] S J Q
  refine v_iload_n dX5_links_2_14 rfl ?_
  obtain ⟨o4, K⟩ := K
  refine v_iadd dX5_links_2_15 o4 ?_
  show V w 0 mX5_links_2 16 [some (vR 313), some (vI ((o : Nat) : Int)), some (vI ((a : Nat) : Int)), some (vI ((b : Nat) : Int))] [vI ((((1600 * o) + (40 * a)) + b : Nat) : Int), vR 341] S J Q
  refine v_iconst dX5_links_2_16 (in_lit (by decide)) ?_
  obtain ⟨o5, K⟩ := K
  refine st_341 dX5_links_2_17 hL (by omega) o5 (zfit_bool (by decide)) ?_
  show V w 0 mX5_links_2 18 [some (vR 313), some (vI ((o : Nat) : Int)), some (vI ((a : Nat) : Int)), some (vI ((b : Nat) : Int))] [] S (up J 341 (((1600 * o) + (40 * a)) + b) 1) Q
  refine v_aload_n dX5_links_2_18 rfl ?_
  refine v_getR dX5_links_2_19 frX5_100_5 rfl (L_313 hL).1 (LR_313_42 hL) (Or.inl rfl) ?_
  refine v_sipush dX5_links_2_22 (by decide) (in_lit (by decide)) ?_
  refine v_iload_n dX5_links_2_25 rfl ?_
  obtain ⟨o6, K⟩ := K
  refine v_imul dX5_links_2_26 o6 ?_
  show V w 0 mX5_links_2 27 [some (vR 313), some (vI ((o : Nat) : Int)), some (vI ((a : Nat) : Int)), some (vI ((b : Nat) : Int))] [vI ((1600 * o : Nat) : Int), vR 341] S (up J 341 (((1600 * o) + (40 * a)) + b) 1) Q
  refine v_bipush dX5_links_2_27 (by decide) (in_lit (by decide)) ?_
  refine v_iload_n dX5_links_2_29 rfl ?_
  obtain ⟨o7, K⟩ := K
  refine v_imul dX5_links_2_30 o7 ?_
  show V w 0 mX5_links_2 31 [some (vR 313), some (vI ((o : Nat) : Int)), some (vI ((a : Nat) : Int)), some (vI ((b : Nat) : Int))] [vI ((40 * b : Nat) : Int), vI ((1600 * o : Nat) : Int), vR 341] S (up J 341 (((1600 * o) + (40 * a)) + b) 1) Q
  obtain ⟨o8, K⟩ := K
  refine v_iadd dX5_links_2_31 o8 ?_
  show V w 0 mX5_links_2 32 [some (vR 313), some (vI ((o : Nat) : Int)), some (vI ((a : Nat) : Int)), some (vI ((b : Nat) : Int))] [vI (((1600 * o) + (40 * b) : Nat) : Int), vR 341] S (up J 341 (((1600 * o) + (40 * a)) + b) 1) Q
  refine v_iload_n dX5_links_2_32 rfl ?_
  obtain ⟨o9, K⟩ := K
  refine v_iadd dX5_links_2_33 o9 ?_
  show V w 0 mX5_links_2 34 [some (vR 313), some (vI ((o : Nat) : Int)), some (vI ((a : Nat) : Int)), some (vI ((b : Nat) : Int))] [vI ((((1600 * o) + (40 * b)) + a : Nat) : Int), vR 341] S (up J 341 (((1600 * o) + (40 * a)) + b) 1) Q
  refine v_iconst dX5_links_2_34 (in_lit (by decide)) ?_
  obtain ⟨o10, K⟩ := K
  refine st_341 dX5_links_2_35 hL (by omega) o10 (zfit_bool (by decide)) ?_
  show V w 0 mX5_links_2 36 [some (vR 313), some (vI ((o : Nat) : Int)), some (vI ((a : Nat) : Int)), some (vI ((b : Nat) : Int))] [] S (up (up J 341 (((1600 * o) + (40 * a)) + b) 1) 341 (((1600 * o) + (40 * b)) + a) 1) Q
  exact v_vret dX5_links_2_36 rfl K

/-- two are linked, both ways round -/
def lnkUp (J : Jm) (o a b : Nat) : Jm := up (up J 341 (1600 * o + 40 * a + b) 1) 341 (1600 * o + 40 * b + a) 1
theorem s_links2 {w : Wd} {S : Sh} {J : Jm} {Q : Out → Sh → Jm → Prop} (hL : Lay S) (x1 x2 x3 : Int) (h1 : 0 ≤ x1 ∧ x1 < 2) (h2 : 0 ≤ x2 ∧ x2 < 40) (h3 : 0 ≤ x3 ∧ x3 < 40) (K : Q (.inl none) S (lnkUp J x1.toNat x2.toNat x3.toNat)) : V w 0 mX5_links_2 0 (ent mX5_links_2 [vR 313, vI x1, vI x2, vI x3]) [] S J Q := by
  obtain ⟨o, rfl⟩ : ∃ a : Nat, x1 = a := ⟨x1.toNat, by omega⟩
  obtain ⟨a, rfl⟩ : ∃ a : Nat, x2 = a := ⟨x2.toNat, by omega⟩
  obtain ⟨b, rfl⟩ : ∃ a : Nat, x3 = a := ⟨x3.toNat, by omega⟩
  refine gX5_links_2_0 hL o a b ?_
  repeat' (first | (refine And.intro ?_ ?_; omega))
  exact K
/-- the links, after two were linked -/
theorem lnkUp_at {J : Jm} {o a b o' u v : Nat} (ho : o < 2) (ha : a < 40) (hb : b < 40) (ho' : o' < 2) (hu : u < 40) (hv : v < 40) : lnkUp J o a b 341 (1600 * o' + 40 * u + v) = if o' = o ∧ ((u = a ∧ v = b) ∨ (u = b ∧ v = a)) then 1 else J 341 (1600 * o' + 40 * u + v) := by
  unfold lnkUp up
  simp only [true_and]
  by_cases h1 : 1600 * o' + 40 * u + v = 1600 * o + 40 * b + a
  · rw [if_pos h1, if_pos (by omega)]
  · rw [if_neg h1]
    by_cases h2 : 1600 * o' + 40 * u + v = 1600 * o + 40 * a + b
    · rw [if_pos h2, if_pos (by omega)]
    · rw [if_neg h2, if_neg (by omega)]
theorem lnkUp_na {J : Jm} {o a b c k : Nat} (h : c ≠ 341) : lnkUp J o a b c k = J c k := by
  unfold lnkUp
  rw [up_na h, up_na h]
/-- 1 where it is so, 0 where not -/
def B01 (z : Int) (P : Prop) : Prop := (z = 1 ∧ P) ∨ (z = 0 ∧ ¬ P)
theorem B01.iff {z : Int} {P P' : Prop} (h : B01 z P) (e : P ↔ P') : B01 z P' := by
  rcases h with ⟨a, b⟩ | ⟨a, b⟩
  · exact Or.inl ⟨a, e.mp b⟩
  · exact Or.inr ⟨a, fun q => b (e.mpr q)⟩
theorem B01.one {z : Int} {P : Prop} (h : B01 z P) : z = 1 ↔ P := by
  rcases h with ⟨a, b⟩ | ⟨a, b⟩
  · exact ⟨fun _ => b, fun _ => a⟩
  · exact ⟨fun q => by omega, fun q => absurd q b⟩
theorem B01.zero {z : Int} {P : Prop} (h : B01 z P) : z = 0 ↔ ¬ P := by
  rcases h with ⟨a, b⟩ | ⟨a, b⟩
  · exact ⟨fun q => by omega, fun q => absurd b q⟩
  · exact ⟨fun _ => b, fun _ => a⟩
theorem cntP_comm (x y : Int) (l : List (Int × Int)) : cntP x y l = cntP y x l := by
  unfold cntP
  congr 1
  funext p
  rw [decide_eq_decide]
  omega
theorem tp1_ne {J : Jm} {c : Nat} {ρ : Nat → List Int} {a b : Nat} : ∀ p ∈ tp1 J c ρ a b, p.1 ≠ p.2 := by
  unfold tp1
  split
  · rename_i h
    intro p hp
    rw [List.mem_singleton.mp hp]
    rcases unl_spec (ρ a) (ρ b) with q | ⟨-, i, e, -, q, -⟩
    · exact absurd q h.1
    · rw [e]; exact q
  · intro p hp; cases hp
theorem tpI_ne {J : Jm} {c : Nat} {ρ : Nat → List Int} {a : Nat} : ∀ m, ∀ p ∈ tpI J c ρ a m, p.1 ≠ p.2
  | 0 => fun p hp => by cases hp
  | m + 1 => fun p hp => by
    unfold tpI at hp
    rcases List.mem_append.mp hp with h | h
    · exact tpI_ne m p h
    · exact tp1_ne p h
theorem tpO_ne {J : Jm} {c : Nat} {ρ : Nat → List Int} {n : Nat} : ∀ m, ∀ p ∈ tpO J c ρ n m, p.1 ≠ p.2
  | 0 => fun p hp => by cases hp
  | m + 1 => fun p hp => by
    unfold tpO at hp
    rcases List.mem_append.mp hp with h | h
    · exact tpO_ne m p h
    · exact tpI_ne _ p h
theorem cntP_self {J : Jm} {c : Nat} {L : List (List Int)} (x : Int) : cntP x x (tpOf J c L) = 0 := by
  unfold cntP
  rw [List.countP_eq_zero]
  intro p hp
  have := tpO_ne _ p hp
  rw [decide_eq_true_eq]
  omega
theorem gX5_linksBy_0 {w : Wd} {S : Sh} {J : Jm} {Q : Out → Sh → Jm → Prop} (hL : Lay S) (c : Nat)
    (K : V w 2 mX5_linksBy 2 [some (vR 313), some (vI ((c : Nat) : Int)), some (vI 0), none, none, none, none] [] S J Q) :
    V w 2 mX5_linksBy 0 (ent mX5_linksBy [vR 313, vI ((c : Nat) : Int)]) [] S J Q := by
  show V w 2 mX5_linksBy 0 [some (vR 313), some (vI ((c : Nat) : Int)), none, none, none, none, none] [] S J Q
  refine v_iconst dX5_linksBy_0 (in_lit (by decide)) ?_
  refine v_istore_n dX5_linksBy_1 (Nat.le_of_ble_eq_true rfl) ?_
  show V w 2 mX5_linksBy 2 [some (vR 313), some (vI ((c : Nat) : Int)), some (vI 0), none, none, none, none] [] S J Q
  exact K
theorem gX5_linksBy_2 {w : Wd} {S : Sh} {J : Jm} {Q : Out → Sh → Jm → Prop} (hL : Lay S) (c : Nat) (k : Nat)
    (K : Br (1600 ≤ ((k : Nat) : Int)) (V w 2 mX5_linksBy 24 [some (vR 313), some (vI ((c : Nat) : Int)), some (vI 0), none, none, none, none] [] S J Q) ((((k : Nat) : Int) < 1600) ∧ (-2147483648 ≤ ((k : Nat) : Int) + 1 ∧ ((k : Nat) : Int) + 1 ≤ 2147483647) ∧ V w 2 mX5_linksBy 2 [some (vR 313), some (vI ((c : Nat) : Int)), some (vI ((k + 1 : Nat) : Int)), none, none, none, none] [] S (up J 344 k 0) Q)) :
    V w 2 mX5_linksBy 2 [some (vR 313), some (vI ((c : Nat) : Int)), some (vI ((k : Nat) : Int)), none, none, none, none] [] S J Q := by
  refine v_iload_n dX5_linksBy_2 rfl ?_
  refine v_sipush dX5_linksBy_3 (by decide) (in_lit (by decide)) ?_
  obtain ⟨K1, K2⟩ := K
  refine v_icmp_ge 22 dX5_linksBy_6 (by decide) (fun cQ => ?_) (fun cQ => ?_)
  · have K := K1 cQ
    refine v_iconst dX5_linksBy_22 (in_lit (by decide)) ?_
    refine v_istore_n dX5_linksBy_23 (Nat.le_of_ble_eq_true rfl) ?_
    show V w 2 mX5_linksBy 24 [some (vR 313), some (vI ((c : Nat) : Int)), some (vI 0), none, none, none, none] [] S J Q
    exact K
  · have K := K2 cQ
    refine v_aload_n dX5_linksBy_9 rfl ?_
    refine v_getR dX5_linksBy_10 frX5_109_5 rfl (L_313 hL).1 (LR_313_45 hL) (Or.inl rfl) ?_
    refine v_iload_n dX5_linksBy_13 rfl ?_
    refine v_iconst dX5_linksBy_14 (in_lit (by decide)) ?_
    obtain ⟨o1, K⟩ := K
    refine st_344 dX5_linksBy_15 hL (by omega) o1 ?_
    show V w 2 mX5_linksBy 16 [some (vR 313), some (vI ((c : Nat) : Int)), some (vI ((k : Nat) : Int)), none, none, none, none] [] S (up J 344 k 0) Q
    obtain ⟨o2, K⟩ := K
    refine v_iinc dX5_linksBy_16 rfl o2 ?_
    show V w 2 mX5_linksBy 19 [some (vR 313), some (vI ((c : Nat) : Int)), some (vI ((k + 1 : Nat) : Int)), none, none, none, none] [] S (up J 344 k 0) Q
    refine v_goto 2 dX5_linksBy_19 (by decide) ?_
    exact K
theorem gX5_linksBy_24 {w : Wd} {S : Sh} {J : Jm} {Q : Out → Sh → Jm → Prop} (hL : Lay S) (c : Nat) (a : Nat)
    (K : Br (J 313 39 ≤ ((a : Nat) : Int)) (V w 2 mX5_linksBy 142 [some (vR 313), some (vI ((c : Nat) : Int)), some (vI 0), none, none, none, none] [] S J Q) ((-2147483648 ≤ ((a : Nat) : Int) + 1 ∧ ((a : Nat) : Int) + 1 ≤ 2147483647) ∧ V w 2 mX5_linksBy 36 [some (vR 313), some (vI ((c : Nat) : Int)), some (vI ((a : Nat) : Int)), some (vI ((a + 1 : Nat) : Int)), none, none, none] [] S J Q)) :
    V w 2 mX5_linksBy 24 [some (vR 313), some (vI ((c : Nat) : Int)), some (vI ((a : Nat) : Int)), none, none, none, none] [] S J Q := by
  refine v_iload_n dX5_linksBy_24 rfl ?_
  refine v_aload_n dX5_linksBy_25 rfl ?_
  refine v_getI dX5_linksBy_26 frX5_307_5 rfl rfl (L_313 hL).1 ?_
  obtain ⟨K1, K2⟩ := K
  refine v_icmp_ge 140 dX5_linksBy_29 (by decide) (fun cQ => ?_) (fun cQ => ?_)
  · have K := K1 cQ
    refine v_iconst dX5_linksBy_140 (in_lit (by decide)) ?_
    refine v_istore_n dX5_linksBy_141 (Nat.le_of_ble_eq_true rfl) ?_
    show V w 2 mX5_linksBy 142 [some (vR 313), some (vI ((c : Nat) : Int)), some (vI 0), none, none, none, none] [] S J Q
    exact K
  · have K := K2 cQ
    refine v_iload_n dX5_linksBy_32 rfl ?_
    refine v_iconst dX5_linksBy_33 (in_lit (by decide)) ?_
    obtain ⟨o1, K⟩ := K
    refine v_iadd dX5_linksBy_34 o1 ?_
    show V w 2 mX5_linksBy 35 [some (vR 313), some (vI ((c : Nat) : Int)), some (vI ((a : Nat) : Int)), none, none, none, none] [vI ((a + 1 : Nat) : Int)] S J Q
    refine v_istore_n dX5_linksBy_35 (Nat.le_of_ble_eq_true rfl) ?_
    show V w 2 mX5_linksBy 36 [some (vR 313), some (vI ((c : Nat) : Int)), some (vI ((a : Nat) : Int)), some (vI ((a + 1 : Nat) : Int)), none, none, none] [] S J Q
    exact K
theorem gX5_linksBy_36 {w : Wd} {S : Sh} {J : Jm} {Q : Out → Sh → Jm → Prop} (hL : Lay S) (c : Nat) (a : Nat) (b : Nat)
    (K : Br (J 313 39 ≤ ((b : Nat) : Int)) ((-2147483648 ≤ ((a : Nat) : Int) + 1 ∧ ((a : Nat) : Int) + 1 ≤ 2147483647) ∧ V w 2 mX5_linksBy 24 [some (vR 313), some (vI ((c : Nat) : Int)), some (vI ((a + 1 : Nat) : Int)), none, none, none, none] [] S J Q) ((0 ≤ ((c : Nat) : Int) ∧ ((c : Nat) : Int) < 132) ∧ (0 ≤ ((a : Nat) : Int) ∧ ((a : Nat) : Int) < 192) ∧ (0 ≤ ((b : Nat) : Int) ∧ ((b : Nat) : Int) < 192) ∧ (0 ≤ J 339 ((a : Nat) : Int).toNat ∧ J 339 ((a : Nat) : Int).toNat ≤ 6) ∧ (0 ≤ J 339 ((b : Nat) : Int).toNat ∧ J 339 ((b : Nat) : Int).toNat ≤ 6) ∧ (0 ≤ J 322 ((c : Nat) : Int).toNat ∧ J 322 ((c : Nat) : Int).toNat ≤ 7) ∧ Br (tls J ((c : Nat) : Int).toNat (wrow J ((a : Nat) : Int).toNat) (wrow J ((b : Nat) : Int).toNat)) ((0 ≤ ((a : Nat) : Int) ∧ ((a : Nat) : Int) < 192) ∧ (0 ≤ ((b : Nat) : Int) ∧ ((b : Nat) : Int) < 192) ∧ (0 ≤ J 339 ((a : Nat) : Int).toNat ∧ J 339 ((a : Nat) : Int).toNat ≤ 6) ∧ (0 ≤ J 339 ((b : Nat) : Int).toNat ∧ J 339 ((b : Nat) : Int).toNat ≤ 6) ∧ (-2147483648 ≤ 6 * ((a : Nat) : Int) ∧ 6 * ((a : Nat) : Int) ≤ 2147483647) ∧ (-2147483648 ≤ ((6 * a : Nat) : Int) + (unl (wrow J ((a : Nat) : Int).toNat) (wrow J ((b : Nat) : Int).toNat)) ∧ ((6 * a : Nat) : Int) + (unl (wrow J ((a : Nat) : Int).toNat) (wrow J ((b : Nat) : Int).toNat)) ≤ 2147483647) ∧ (0 ≤ ((6 * a : Nat) : Int) + (unl (wrow J ((a : Nat) : Int).toNat) (wrow J ((b : Nat) : Int).toNat))) ∧ (((6 * a : Nat) : Int) + (unl (wrow J ((a : Nat) : Int).toNat) (wrow J ((b : Nat) : Int).toNat)) < 1152) ∧ (-2147483648 ≤ 6 * ((b : Nat) : Int) ∧ 6 * ((b : Nat) : Int) ≤ 2147483647) ∧ (-2147483648 ≤ ((6 * b : Nat) : Int) + (unl (wrow J ((a : Nat) : Int).toNat) (wrow J ((b : Nat) : Int).toNat)) ∧ ((6 * b : Nat) : Int) + (unl (wrow J ((a : Nat) : Int).toNat) (wrow J ((b : Nat) : Int).toNat)) ≤ 2147483647) ∧ (0 ≤ ((6 * b : Nat) : Int) + (unl (wrow J ((a : Nat) : Int).toNat) (wrow J ((b : Nat) : Int).toNat))) ∧ (((6 * b : Nat) : Int) + (unl (wrow J ((a : Nat) : Int).toNat) (wrow J ((b : Nat) : Int).toNat)) < 1152) ∧ Br (J 340 (((6 * b : Nat) : Int) + (unl (wrow J ((a : Nat) : Int).toNat) (wrow J ((b : Nat) : Int).toNat))).toNat ≤ J 340 (((6 * a : Nat) : Int) + (unl (wrow J ((a : Nat) : Int).toNat) (wrow J ((b : Nat) : Int).toNat))).toNat) ((-2147483648 ≤ 40 * (J 340 (((6 * b : Nat) : Int) + (unl (wrow J ((a : Nat) : Int).toNat) (wrow J ((b : Nat) : Int).toNat))).toNat) ∧ 40 * (J 340 (((6 * b : Nat) : Int) + (unl (wrow J ((a : Nat) : Int).toNat) (wrow J ((b : Nat) : Int).toNat))).toNat) ≤ 2147483647) ∧ (-2147483648 ≤ (40 * (J 340 (((6 * b : Nat) : Int) + (unl (wrow J ((a : Nat) : Int).toNat) (wrow J ((b : Nat) : Int).toNat))).toNat)) + (J 340 (((6 * a : Nat) : Int) + (unl (wrow J ((a : Nat) : Int).toNat) (wrow J ((b : Nat) : Int).toNat))).toNat) ∧ (40 * (J 340 (((6 * b : Nat) : Int) + (unl (wrow J ((a : Nat) : Int).toNat) (wrow J ((b : Nat) : Int).toNat))).toNat)) + (J 340 (((6 * a : Nat) : Int) + (unl (wrow J ((a : Nat) : Int).toNat) (wrow J ((b : Nat) : Int).toNat))).toNat) ≤ 2147483647) ∧ (0 ≤ (40 * (J 340 (((6 * b : Nat) : Int) + (unl (wrow J ((a : Nat) : Int).toNat) (wrow J ((b : Nat) : Int).toNat))).toNat)) + (J 340 (((6 * a : Nat) : Int) + (unl (wrow J ((a : Nat) : Int).toNat) (wrow J ((b : Nat) : Int).toNat))).toNat)) ∧ ((40 * (J 340 (((6 * b : Nat) : Int) + (unl (wrow J ((a : Nat) : Int).toNat) (wrow J ((b : Nat) : Int).toNat))).toNat)) + (J 340 (((6 * a : Nat) : Int) + (unl (wrow J ((a : Nat) : Int).toNat) (wrow J ((b : Nat) : Int).toNat))).toNat) < 1600) ∧ (-2147483648 ≤ (J 344 ((40 * (J 340 (((6 * b : Nat) : Int) + (unl (wrow J ((a : Nat) : Int).toNat) (wrow J ((b : Nat) : Int).toNat))).toNat)) + (J 340 (((6 * a : Nat) : Int) + (unl (wrow J ((a : Nat) : Int).toNat) (wrow J ((b : Nat) : Int).toNat))).toNat)).toNat) + 1 ∧ (J 344 ((40 * (J 340 (((6 * b : Nat) : Int) + (unl (wrow J ((a : Nat) : Int).toNat) (wrow J ((b : Nat) : Int).toNat))).toNat)) + (J 340 (((6 * a : Nat) : Int) + (unl (wrow J ((a : Nat) : Int).toNat) (wrow J ((b : Nat) : Int).toNat))).toNat)).toNat) + 1 ≤ 2147483647) ∧ (0 ≤ (40 * (J 340 (((6 * b : Nat) : Int) + (unl (wrow J ((a : Nat) : Int).toNat) (wrow J ((b : Nat) : Int).toNat))).toNat)) + (J 340 (((6 * a : Nat) : Int) + (unl (wrow J ((a : Nat) : Int).toNat) (wrow J ((b : Nat) : Int).toNat))).toNat)) ∧ ((40 * (J 340 (((6 * b : Nat) : Int) + (unl (wrow J ((a : Nat) : Int).toNat) (wrow J ((b : Nat) : Int).toNat))).toNat)) + (J 340 (((6 * a : Nat) : Int) + (unl (wrow J ((a : Nat) : Int).toNat) (wrow J ((b : Nat) : Int).toNat))).toNat) < 1600) ∧ (-2147483648 ≤ ((b : Nat) : Int) + 1 ∧ ((b : Nat) : Int) + 1 ≤ 2147483647) ∧ V w 2 mX5_linksBy 36 [some (vR 313), some (vI ((c : Nat) : Int)), some (vI ((a : Nat) : Int)), some (vI ((b + 1 : Nat) : Int)), none, none, none] [] S (up J 344 ((40 * (J 340 (((6 * b : Nat) : Int) + (unl (wrow J ((a : Nat) : Int).toNat) (wrow J ((b : Nat) : Int).toNat))).toNat)) + (J 340 (((6 * a : Nat) : Int) + (unl (wrow J ((a : Nat) : Int).toNat) (wrow J ((b : Nat) : Int).toNat))).toNat)).toNat ((J 344 ((40 * (J 340 (((6 * b : Nat) : Int) + (unl (wrow J ((a : Nat) : Int).toNat) (wrow J ((b : Nat) : Int).toNat))).toNat)) + (J 340 (((6 * a : Nat) : Int) + (unl (wrow J ((a : Nat) : Int).toNat) (wrow J ((b : Nat) : Int).toNat))).toNat)).toNat) + 1)) Q) ((-2147483648 ≤ 40 * (J 340 (((6 * a : Nat) : Int) + (unl (wrow J ((a : Nat) : Int).toNat) (wrow J ((b : Nat) : Int).toNat))).toNat) ∧ 40 * (J 340 (((6 * a : Nat) : Int) + (unl (wrow J ((a : Nat) : Int).toNat) (wrow J ((b : Nat) : Int).toNat))).toNat) ≤ 2147483647) ∧ (-2147483648 ≤ (40 * (J 340 (((6 * a : Nat) : Int) + (unl (wrow J ((a : Nat) : Int).toNat) (wrow J ((b : Nat) : Int).toNat))).toNat)) + (J 340 (((6 * b : Nat) : Int) + (unl (wrow J ((a : Nat) : Int).toNat) (wrow J ((b : Nat) : Int).toNat))).toNat) ∧ (40 * (J 340 (((6 * a : Nat) : Int) + (unl (wrow J ((a : Nat) : Int).toNat) (wrow J ((b : Nat) : Int).toNat))).toNat)) + (J 340 (((6 * b : Nat) : Int) + (unl (wrow J ((a : Nat) : Int).toNat) (wrow J ((b : Nat) : Int).toNat))).toNat) ≤ 2147483647) ∧ (0 ≤ (40 * (J 340 (((6 * a : Nat) : Int) + (unl (wrow J ((a : Nat) : Int).toNat) (wrow J ((b : Nat) : Int).toNat))).toNat)) + (J 340 (((6 * b : Nat) : Int) + (unl (wrow J ((a : Nat) : Int).toNat) (wrow J ((b : Nat) : Int).toNat))).toNat)) ∧ ((40 * (J 340 (((6 * a : Nat) : Int) + (unl (wrow J ((a : Nat) : Int).toNat) (wrow J ((b : Nat) : Int).toNat))).toNat)) + (J 340 (((6 * b : Nat) : Int) + (unl (wrow J ((a : Nat) : Int).toNat) (wrow J ((b : Nat) : Int).toNat))).toNat) < 1600) ∧ (-2147483648 ≤ (J 344 ((40 * (J 340 (((6 * a : Nat) : Int) + (unl (wrow J ((a : Nat) : Int).toNat) (wrow J ((b : Nat) : Int).toNat))).toNat)) + (J 340 (((6 * b : Nat) : Int) + (unl (wrow J ((a : Nat) : Int).toNat) (wrow J ((b : Nat) : Int).toNat))).toNat)).toNat) + 1 ∧ (J 344 ((40 * (J 340 (((6 * a : Nat) : Int) + (unl (wrow J ((a : Nat) : Int).toNat) (wrow J ((b : Nat) : Int).toNat))).toNat)) + (J 340 (((6 * b : Nat) : Int) + (unl (wrow J ((a : Nat) : Int).toNat) (wrow J ((b : Nat) : Int).toNat))).toNat)).toNat) + 1 ≤ 2147483647) ∧ (0 ≤ (40 * (J 340 (((6 * a : Nat) : Int) + (unl (wrow J ((a : Nat) : Int).toNat) (wrow J ((b : Nat) : Int).toNat))).toNat)) + (J 340 (((6 * b : Nat) : Int) + (unl (wrow J ((a : Nat) : Int).toNat) (wrow J ((b : Nat) : Int).toNat))).toNat)) ∧ ((40 * (J 340 (((6 * a : Nat) : Int) + (unl (wrow J ((a : Nat) : Int).toNat) (wrow J ((b : Nat) : Int).toNat))).toNat)) + (J 340 (((6 * b : Nat) : Int) + (unl (wrow J ((a : Nat) : Int).toNat) (wrow J ((b : Nat) : Int).toNat))).toNat) < 1600) ∧ (-2147483648 ≤ ((b : Nat) : Int) + 1 ∧ ((b : Nat) : Int) + 1 ≤ 2147483647) ∧ V w 2 mX5_linksBy 36 [some (vR 313), some (vI ((c : Nat) : Int)), some (vI ((a : Nat) : Int)), some (vI ((b + 1 : Nat) : Int)), none, none, none] [] S (up J 344 ((40 * (J 340 (((6 * a : Nat) : Int) + (unl (wrow J ((a : Nat) : Int).toNat) (wrow J ((b : Nat) : Int).toNat))).toNat)) + (J 340 (((6 * b : Nat) : Int) + (unl (wrow J ((a : Nat) : Int).toNat) (wrow J ((b : Nat) : Int).toNat))).toNat)).toNat ((J 344 ((40 * (J 340 (((6 * a : Nat) : Int) + (unl (wrow J ((a : Nat) : Int).toNat) (wrow J ((b : Nat) : Int).toNat))).toNat)) + (J 340 (((6 * b : Nat) : Int) + (unl (wrow J ((a : Nat) : Int).toNat) (wrow J ((b : Nat) : Int).toNat))).toNat)).toNat) + 1)) Q)) ((-2147483648 ≤ ((b : Nat) : Int) + 1 ∧ ((b : Nat) : Int) + 1 ≤ 2147483647) ∧ V w 2 mX5_linksBy 36 [some (vR 313), some (vI ((c : Nat) : Int)), some (vI ((a : Nat) : Int)), some (vI ((b + 1 : Nat) : Int)), none, none, none] [] S J Q))) :
    V w 2 mX5_linksBy 36 [some (vR 313), some (vI ((c : Nat) : Int)), some (vI ((a : Nat) : Int)), some (vI ((b : Nat) : Int)), none, none, none] [] S J Q := by
  refine v_iload_n dX5_linksBy_36 rfl ?_
  refine v_aload_n dX5_linksBy_37 rfl ?_
  refine v_getI dX5_linksBy_38 frX5_307_5 rfl rfl (L_313 hL).1 ?_
  obtain ⟨K1, K2⟩ := K
  refine v_icmp_ge 134 dX5_linksBy_41 (by decide) (fun cQ => ?_) (fun cQ => ?_)
  · have K := K1 cQ
    obtain ⟨o1, K⟩ := K
    refine v_iinc dX5_linksBy_134 rfl o1 ?_
    show V w 2 mX5_linksBy 137 [some (vR 313), some (vI ((c : Nat) : Int)), some (vI ((a + 1 : Nat) : Int)), some (vI ((b : Nat) : Int)), none, none, none] [] S J Q
    refine v_goto 24 dX5_linksBy_137 (by decide) ?_
    exact v_forget (fg_some (fg_some (fg_some (fg_none (fg_none (fg_none (fg_none fg_nil))))))) K
  · have K := K2 cQ
    refine v_aload_n dX5_linksBy_44 rfl ?_
    refine v_iload_n dX5_linksBy_45 rfl ?_
    refine v_iload_n dX5_linksBy_46 rfl ?_
    refine v_iload_n dX5_linksBy_47 rfl ?_
    refine v_callV (d' := 1) (rest := []) [vI ((c : Nat) : Int), vI ((a : Nat) : Int), vI ((b : Nat) : Int)] dX5_linksBy_48 vrX5_323_5 (L_313 hL).1 rfl rfl (one_I (one_I (one_I one_nil))) (Nat.le_of_ble_eq_true rfl) (Nat.le_of_ble_eq_true rfl) (Nat.le_of_ble_eq_true rfl) ?_
    obtain ⟨o2, K⟩ := K
    obtain ⟨o3, K⟩ := K
    obtain ⟨o4, K⟩ := K
    obtain ⟨o5, K⟩ := K
    obtain ⟨o6, K⟩ := K
    obtain ⟨o7, K⟩ := K
    obtain ⟨K1, K2⟩ := K
    refine s_tellsBy hL ((c : Nat) : Int) ((a : Nat) : Int) ((b : Nat) : Int) o2 o3 o4 o5 o6 o7 (fun cQ => ?_) (fun cQ => ?_)
    · have K := K1 cQ
      show V w 2 mX5_linksBy 51 [some (vR 313), some (vI ((c : Nat) : Int)), some (vI ((a : Nat) : Int)), some (vI ((b : Nat) : Int)), none, none, none] [vI 1] S J Q
      refine v_if_ne 57 dX5_linksBy_51 (by decide) (fun _ => ?_) (fun cQ => absurd cQ (by decide))
      refine v_aload_n dX5_linksBy_57 rfl ?_
      refine v_iload_n dX5_linksBy_58 rfl ?_
      refine v_iload_n dX5_linksBy_59 rfl ?_
      refine v_callV (d' := 0) (rest := []) [vI ((a : Nat) : Int), vI ((b : Nat) : Int)] dX5_linksBy_60 vrX5_320_5 (L_313 hL).1 rfl rfl (one_I (one_I one_nil)) (Nat.le_of_ble_eq_true rfl) (Nat.le_of_ble_eq_true rfl) (Nat.le_of_ble_eq_true rfl) ?_
      obtain ⟨o8, K⟩ := K
      obtain ⟨o9, K⟩ := K
      obtain ⟨o10, K⟩ := K
      obtain ⟨o11, K⟩ := K
      refine s_unlikeAt hL ((a : Nat) : Int) ((b : Nat) : Int) o8 o9 o10 o11 ?_
      show V w 2 mX5_linksBy 63 [some (vR 313), some (vI ((c : Nat) : Int)), some (vI ((a : Nat) : Int)), some (vI ((b : Nat) : Int)), none, none, none] [vI (unl (wrow J ((a : Nat) : Int).toNat) (wrow J ((b : Nat) : Int).toNat))] S J Q
      refine v_istore dX5_linksBy_63 (Nat.le_of_ble_eq_true rfl) ?_
      show V w 2 mX5_linksBy 65 [some (vR 313), some (vI ((c : Nat) : Int)), some (vI ((a : Nat) : Int)), some (vI ((b : Nat) : Int)), some (vI (unl (wrow J ((a : Nat) : Int).toNat) (wrow J ((b : Nat) : Int).toNat))), none, none] [] S J Q
      refine v_aload_n dX5_linksBy_65 rfl ?_
      refine v_getR dX5_linksBy_66 frX5_97_5 rfl (L_313 hL).1 (LR_313_41 hL) (Or.inl rfl) ?_
      refine v_bipush dX5_linksBy_69 (by decide) (in_lit (by decide)) ?_
      refine v_iload_n dX5_linksBy_71 rfl ?_
      obtain ⟨o12, K⟩ := K
      refine v_imul dX5_linksBy_72 o12 ?_
      show V w 2 mX5_linksBy 73 [some (vR 313), some (vI ((c : Nat) : Int)), some (vI ((a : Nat) : Int)), some (vI ((b : Nat) : Int)), some (vI (unl (wrow J ((a : Nat) : Int).toNat) (wrow J ((b : Nat) : Int).toNat))), none, none] [vI ((6 * a : Nat) : Int), vR 340] S J Q
      refine v_iload dX5_linksBy_73 rfl ?_
      obtain ⟨o13, K⟩ := K
      refine v_iadd dX5_linksBy_75 o13 ?_
      obtain ⟨o14, K⟩ := K
      obtain ⟨o15, K⟩ := K
      refine ld_340 dX5_linksBy_76 hL o14 o15 ?_
      refine v_istore dX5_linksBy_77 (Nat.le_of_ble_eq_true rfl) ?_
      show V w 2 mX5_linksBy 79 [some (vR 313), some (vI ((c : Nat) : Int)), some (vI ((a : Nat) : Int)), some (vI ((b : Nat) : Int)), some (vI (unl (wrow J ((a : Nat) : Int).toNat) (wrow J ((b : Nat) : Int).toNat))), some (vI (J 340 (((6 * a : Nat) : Int) + (unl (wrow J ((a : Nat) : Int).toNat) (wrow J ((b : Nat) : Int).toNat))).toNat)), none] [] S J Q
      refine v_aload_n dX5_linksBy_79 rfl ?_
      refine v_getR dX5_linksBy_80 frX5_97_5 rfl (L_313 hL).1 (LR_313_41 hL) (Or.inl rfl) ?_
      refine v_bipush dX5_linksBy_83 (by decide) (in_lit (by decide)) ?_
      refine v_iload_n dX5_linksBy_85 rfl ?_
      obtain ⟨o16, K⟩ := K
      refine v_imul dX5_linksBy_86 o16 ?_
      show V w 2 mX5_linksBy 87 [some (vR 313), some (vI ((c : Nat) : Int)), some (vI ((a : Nat) : Int)), some (vI ((b : Nat) : Int)), some (vI (unl (wrow J ((a : Nat) : Int).toNat) (wrow J ((b : Nat) : Int).toNat))), some (vI (J 340 (((6 * a : Nat) : Int) + (unl (wrow J ((a : Nat) : Int).toNat) (wrow J ((b : Nat) : Int).toNat))).toNat)), none] [vI ((6 * b : Nat) : Int), vR 340] S J Q
      refine v_iload dX5_linksBy_87 rfl ?_
      obtain ⟨o17, K⟩ := K
      refine v_iadd dX5_linksBy_89 o17 ?_
      obtain ⟨o18, K⟩ := K
      obtain ⟨o19, K⟩ := K
      refine ld_340 dX5_linksBy_90 hL o18 o19 ?_
      refine v_istore dX5_linksBy_91 (Nat.le_of_ble_eq_true rfl) ?_
      show V w 2 mX5_linksBy 93 [some (vR 313), some (vI ((c : Nat) : Int)), some (vI ((a : Nat) : Int)), some (vI ((b : Nat) : Int)), some (vI (unl (wrow J ((a : Nat) : Int).toNat) (wrow J ((b : Nat) : Int).toNat))), some (vI (J 340 (((6 * a : Nat) : Int) + (unl (wrow J ((a : Nat) : Int).toNat) (wrow J ((b : Nat) : Int).toNat))).toNat)), some (vI (J 340 (((6 * b : Nat) : Int) + (unl (wrow J ((a : Nat) : Int).toNat) (wrow J ((b : Nat) : Int).toNat))).toNat))] [] S J Q
      refine v_aload_n dX5_linksBy_93 rfl ?_
      refine v_getR dX5_linksBy_94 frX5_109_5 rfl (L_313 hL).1 (LR_313_45 hL) (Or.inl rfl) ?_
      refine v_iload dX5_linksBy_97 rfl ?_
      refine v_iload dX5_linksBy_99 rfl ?_
      obtain ⟨K1, K2⟩ := K
      refine v_icmp_ge 115 dX5_linksBy_101 (by decide) (fun cQ => ?_) (fun cQ => ?_)
      · have K := K1 cQ
        refine v_bipush dX5_linksBy_115 (by decide) (in_lit (by decide)) ?_
        refine v_iload dX5_linksBy_117 rfl ?_
        obtain ⟨o20, K⟩ := K
        refine v_imul dX5_linksBy_119 o20 ?_
        refine v_iload dX5_linksBy_120 rfl ?_
        obtain ⟨o21, K⟩ := K
        refine v_iadd dX5_linksBy_122 o21 ?_
        refine v_dup2 dX5_linksBy_123 trivial trivial ?_
        obtain ⟨o22, K⟩ := K
        obtain ⟨o23, K⟩ := K
        refine ld_344 dX5_linksBy_124 hL o22 o23 ?_
        refine v_iconst dX5_linksBy_125 (in_lit (by decide)) ?_
        obtain ⟨o24, K⟩ := K
        refine v_iadd dX5_linksBy_126 o24 ?_
        obtain ⟨o25, K⟩ := K
        obtain ⟨o26, K⟩ := K
        refine st_344 dX5_linksBy_127 hL o25 o26 ?_
        show V w 2 mX5_linksBy 128 [some (vR 313), some (vI ((c : Nat) : Int)), some (vI ((a : Nat) : Int)), some (vI ((b : Nat) : Int)), some (vI (unl (wrow J ((a : Nat) : Int).toNat) (wrow J ((b : Nat) : Int).toNat))), some (vI (J 340 (((6 * a : Nat) : Int) + (unl (wrow J ((a : Nat) : Int).toNat) (wrow J ((b : Nat) : Int).toNat))).toNat)), some (vI (J 340 (((6 * b : Nat) : Int) + (unl (wrow J ((a : Nat) : Int).toNat) (wrow J ((b : Nat) : Int).toNat))).toNat))] [] S (up J 344 ((40 * (J 340 (((6 * b : Nat) : Int) + (unl (wrow J ((a : Nat) : Int).toNat) (wrow J ((b : Nat) : Int).toNat))).toNat)) + (J 340 (((6 * a : Nat) : Int) + (unl (wrow J ((a : Nat) : Int).toNat) (wrow J ((b : Nat) : Int).toNat))).toNat)).toNat ((J 344 ((40 * (J 340 (((6 * b : Nat) : Int) + (unl (wrow J ((a : Nat) : Int).toNat) (wrow J ((b : Nat) : Int).toNat))).toNat)) + (J 340 (((6 * a : Nat) : Int) + (unl (wrow J ((a : Nat) : Int).toNat) (wrow J ((b : Nat) : Int).toNat))).toNat)).toNat) + 1)) Q
        obtain ⟨o27, K⟩ := K
        refine v_iinc dX5_linksBy_128 rfl o27 ?_
        show V w 2 mX5_linksBy 131 [some (vR 313), some (vI ((c : Nat) : Int)), some (vI ((a : Nat) : Int)), some (vI ((b + 1 : Nat) : Int)), some (vI (unl (wrow J ((a : Nat) : Int).toNat) (wrow J ((b : Nat) : Int).toNat))), some (vI (J 340 (((6 * a : Nat) : Int) + (unl (wrow J ((a : Nat) : Int).toNat) (wrow J ((b : Nat) : Int).toNat))).toNat)), some (vI (J 340 (((6 * b : Nat) : Int) + (unl (wrow J ((a : Nat) : Int).toNat) (wrow J ((b : Nat) : Int).toNat))).toNat))] [] S (up J 344 ((40 * (J 340 (((6 * b : Nat) : Int) + (unl (wrow J ((a : Nat) : Int).toNat) (wrow J ((b : Nat) : Int).toNat))).toNat)) + (J 340 (((6 * a : Nat) : Int) + (unl (wrow J ((a : Nat) : Int).toNat) (wrow J ((b : Nat) : Int).toNat))).toNat)).toNat ((J 344 ((40 * (J 340 (((6 * b : Nat) : Int) + (unl (wrow J ((a : Nat) : Int).toNat) (wrow J ((b : Nat) : Int).toNat))).toNat)) + (J 340 (((6 * a : Nat) : Int) + (unl (wrow J ((a : Nat) : Int).toNat) (wrow J ((b : Nat) : Int).toNat))).toNat)).toNat) + 1)) Q
        refine v_goto 36 dX5_linksBy_131 (by decide) ?_
        exact v_forget (fg_some (fg_some (fg_some (fg_some (fg_none (fg_none (fg_none fg_nil))))))) K
      · have K := K2 cQ
        refine v_bipush dX5_linksBy_104 (by decide) (in_lit (by decide)) ?_
        refine v_iload dX5_linksBy_106 rfl ?_
        obtain ⟨o28, K⟩ := K
        refine v_imul dX5_linksBy_108 o28 ?_
        refine v_iload dX5_linksBy_109 rfl ?_
        obtain ⟨o29, K⟩ := K
        refine v_iadd dX5_linksBy_111 o29 ?_
        refine v_goto 123 dX5_linksBy_112 (by decide) ?_
        refine v_dup2 dX5_linksBy_123 trivial trivial ?_
        obtain ⟨o30, K⟩ := K
        obtain ⟨o31, K⟩ := K
        refine ld_344 dX5_linksBy_124 hL o30 o31 ?_
        refine v_iconst dX5_linksBy_125 (in_lit (by decide)) ?_
        obtain ⟨o32, K⟩ := K
        refine v_iadd dX5_linksBy_126 o32 ?_
        obtain ⟨o33, K⟩ := K
        obtain ⟨o34, K⟩ := K
        refine st_344 dX5_linksBy_127 hL o33 o34 ?_
        show V w 2 mX5_linksBy 128 [some (vR 313), some (vI ((c : Nat) : Int)), some (vI ((a : Nat) : Int)), some (vI ((b : Nat) : Int)), some (vI (unl (wrow J ((a : Nat) : Int).toNat) (wrow J ((b : Nat) : Int).toNat))), some (vI (J 340 (((6 * a : Nat) : Int) + (unl (wrow J ((a : Nat) : Int).toNat) (wrow J ((b : Nat) : Int).toNat))).toNat)), some (vI (J 340 (((6 * b : Nat) : Int) + (unl (wrow J ((a : Nat) : Int).toNat) (wrow J ((b : Nat) : Int).toNat))).toNat))] [] S (up J 344 ((40 * (J 340 (((6 * a : Nat) : Int) + (unl (wrow J ((a : Nat) : Int).toNat) (wrow J ((b : Nat) : Int).toNat))).toNat)) + (J 340 (((6 * b : Nat) : Int) + (unl (wrow J ((a : Nat) : Int).toNat) (wrow J ((b : Nat) : Int).toNat))).toNat)).toNat ((J 344 ((40 * (J 340 (((6 * a : Nat) : Int) + (unl (wrow J ((a : Nat) : Int).toNat) (wrow J ((b : Nat) : Int).toNat))).toNat)) + (J 340 (((6 * b : Nat) : Int) + (unl (wrow J ((a : Nat) : Int).toNat) (wrow J ((b : Nat) : Int).toNat))).toNat)).toNat) + 1)) Q
        obtain ⟨o35, K⟩ := K
        refine v_iinc dX5_linksBy_128 rfl o35 ?_
        show V w 2 mX5_linksBy 131 [some (vR 313), some (vI ((c : Nat) : Int)), some (vI ((a : Nat) : Int)), some (vI ((b + 1 : Nat) : Int)), some (vI (unl (wrow J ((a : Nat) : Int).toNat) (wrow J ((b : Nat) : Int).toNat))), some (vI (J 340 (((6 * a : Nat) : Int) + (unl (wrow J ((a : Nat) : Int).toNat) (wrow J ((b : Nat) : Int).toNat))).toNat)), some (vI (J 340 (((6 * b : Nat) : Int) + (unl (wrow J ((a : Nat) : Int).toNat) (wrow J ((b : Nat) : Int).toNat))).toNat))] [] S (up J 344 ((40 * (J 340 (((6 * a : Nat) : Int) + (unl (wrow J ((a : Nat) : Int).toNat) (wrow J ((b : Nat) : Int).toNat))).toNat)) + (J 340 (((6 * b : Nat) : Int) + (unl (wrow J ((a : Nat) : Int).toNat) (wrow J ((b : Nat) : Int).toNat))).toNat)).toNat ((J 344 ((40 * (J 340 (((6 * a : Nat) : Int) + (unl (wrow J ((a : Nat) : Int).toNat) (wrow J ((b : Nat) : Int).toNat))).toNat)) + (J 340 (((6 * b : Nat) : Int) + (unl (wrow J ((a : Nat) : Int).toNat) (wrow J ((b : Nat) : Int).toNat))).toNat)).toNat) + 1)) Q
        refine v_goto 36 dX5_linksBy_131 (by decide) ?_
        exact v_forget (fg_some (fg_some (fg_some (fg_some (fg_none (fg_none (fg_none fg_nil))))))) K
    · have K := K2 cQ
      show V w 2 mX5_linksBy 51 [some (vR 313), some (vI ((c : Nat) : Int)), some (vI ((a : Nat) : Int)), some (vI ((b : Nat) : Int)), none, none, none] [vI 0] S J Q
      refine v_if_ne 57 dX5_linksBy_51 (by decide) (fun cQ => absurd cQ (by decide)) (fun _ => ?_)
      refine v_goto 128 dX5_linksBy_54 (by decide) ?_
      obtain ⟨o36, K⟩ := K
      refine v_iinc dX5_linksBy_128 rfl o36 ?_
      show V w 2 mX5_linksBy 131 [some (vR 313), some (vI ((c : Nat) : Int)), some (vI ((a : Nat) : Int)), some (vI ((b + 1 : Nat) : Int)), none, none, none] [] S J Q
      refine v_goto 36 dX5_linksBy_131 (by decide) ?_
      exact K
theorem gX5_linksBy_142 {w : Wd} {S : Sh} {J : Jm} {Q : Out → Sh → Jm → Prop} (hL : Lay S) (c : Nat) (k : Nat)
    (K : Br (1600 ≤ ((k : Nat) : Int)) (Q (.inl none) S J) ((((k : Nat) : Int) < 1600) ∧ (((c : Nat) : Int) < 132) ∧ Br (J 344 k < J 324 c) ((-2147483648 ≤ ((k : Nat) : Int) + 1 ∧ ((k : Nat) : Int) + 1 ≤ 2147483647) ∧ V w 2 mX5_linksBy 142 [some (vR 313), some (vI ((c : Nat) : Int)), some (vI ((k + 1 : Nat) : Int)), none, none, none, none] [] S J Q) ((((c : Nat) : Int) < 132) ∧ (0 ≤ (J 321 c) ∧ (J 321 c) < 2) ∧ (0 ≤ ((k / 40 : Nat) : Int) ∧ ((k / 40 : Nat) : Int) < 40) ∧ (0 ≤ ((k % 40 : Nat) : Int) ∧ ((k % 40 : Nat) : Int) < 40) ∧ (-2147483648 ≤ ((k : Nat) : Int) + 1 ∧ ((k : Nat) : Int) + 1 ≤ 2147483647) ∧ V w 2 mX5_linksBy 142 [some (vR 313), some (vI ((c : Nat) : Int)), some (vI ((k + 1 : Nat) : Int)), none, none, none, none] [] S (lnkUp J (J 321 c).toNat ((k / 40 : Nat) : Int).toNat ((k % 40 : Nat) : Int).toNat) Q))) :
    V w 2 mX5_linksBy 142 [some (vR 313), some (vI ((c : Nat) : Int)), some (vI ((k : Nat) : Int)), none, none, none, none] [] S J Q := by
  refine v_iload_n dX5_linksBy_142 rfl ?_
  refine v_sipush dX5_linksBy_143 (by decide) (in_lit (by decide)) ?_
  obtain ⟨K1, K2⟩ := K
  refine v_icmp_ge 188 dX5_linksBy_146 (by decide) (fun cQ => ?_) (fun cQ => ?_)
  · have K := K1 cQ
    exact v_vret dX5_linksBy_188 rfl K
  · have K := K2 cQ
    refine v_aload_n dX5_linksBy_149 rfl ?_
    refine v_getR dX5_linksBy_150 frX5_109_5 rfl (L_313 hL).1 (LR_313_45 hL) (Or.inl rfl) ?_
    refine v_iload_n dX5_linksBy_153 rfl ?_
    obtain ⟨o1, K⟩ := K
    refine ld_344 dX5_linksBy_154 hL (by omega) o1 ?_
    show V w 2 mX5_linksBy 155 [some (vR 313), some (vI ((c : Nat) : Int)), some (vI ((k : Nat) : Int)), none, none, none, none] [vI (J 344 k)] S J Q
    refine v_aload_n dX5_linksBy_155 rfl ?_
    refine v_getR dX5_linksBy_156 frX5_44_5 rfl (L_313 hL).1 (LR_313_14 hL) (Or.inl rfl) ?_
    refine v_iload_n dX5_linksBy_159 rfl ?_
    obtain ⟨o2, K⟩ := K
    refine ld_324 dX5_linksBy_160 hL (by omega) o2 ?_
    show V w 2 mX5_linksBy 161 [some (vR 313), some (vI ((c : Nat) : Int)), some (vI ((k : Nat) : Int)), none, none, none, none] [vI (J 324 c), vI (J 344 k)] S J Q
    obtain ⟨K1, K2⟩ := K
    refine v_icmp_lt 182 dX5_linksBy_161 (by decide) (fun cQ => ?_) (fun cQ => ?_)
    · have K := K1 cQ
      obtain ⟨o3, K⟩ := K
      refine v_iinc dX5_linksBy_182 rfl o3 ?_
      show V w 2 mX5_linksBy 185 [some (vR 313), some (vI ((c : Nat) : Int)), some (vI ((k + 1 : Nat) : Int)), none, none, none, none] [] S J Q
      refine v_goto 142 dX5_linksBy_185 (by decide) ?_
      exact K
    · have K := K2 cQ
      refine v_aload_n dX5_linksBy_164 rfl ?_
      refine v_aload_n dX5_linksBy_165 rfl ?_
      refine v_getR dX5_linksBy_166 frX5_35_5 rfl (L_313 hL).1 (LR_313_11 hL) (Or.inl rfl) ?_
      refine v_iload_n dX5_linksBy_169 rfl ?_
      obtain ⟨o4, K⟩ := K
      refine ld_321 dX5_linksBy_170 hL (by omega) o4 ?_
      show V w 2 mX5_linksBy 171 [some (vR 313), some (vI ((c : Nat) : Int)), some (vI ((k : Nat) : Int)), none, none, none, none] [vI (J 321 c), vR 313] S J Q
      refine v_iload_n dX5_linksBy_171 rfl ?_
      refine v_bipush dX5_linksBy_172 (by decide) (in_lit (by decide)) ?_
      refine v_idiv dX5_linksBy_174 (by omega) (by decide) ?_
      show V w 2 mX5_linksBy 175 [some (vR 313), some (vI ((c : Nat) : Int)), some (vI ((k : Nat) : Int)), none, none, none, none] [vI ((k / 40 : Nat) : Int), vI (J 321 c), vR 313] S J Q
      refine v_iload_n dX5_linksBy_175 rfl ?_
      refine v_bipush dX5_linksBy_176 (by decide) (in_lit (by decide)) ?_
      refine v_irem dX5_linksBy_178 (by omega) (by decide) ?_
      show V w 2 mX5_linksBy 179 [some (vR 313), some (vI ((c : Nat) : Int)), some (vI ((k : Nat) : Int)), none, none, none, none] [vI ((k % 40 : Nat) : Int), vI ((k / 40 : Nat) : Int), vI (J 321 c), vR 313] S J Q
      refine v_callV (d' := 0) (rest := []) [vI (J 321 c), vI ((k / 40 : Nat) : Int), vI ((k % 40 : Nat) : Int)] dX5_linksBy_179 vrX5_338_5 (L_313 hL).1 rfl rfl (one_I (one_I (one_I one_nil))) (Nat.le_of_ble_eq_true rfl) (Nat.le_of_ble_eq_true rfl) (Nat.le_of_ble_eq_true rfl) ?_
      obtain ⟨o5, K⟩ := K
      obtain ⟨o6, K⟩ := K
      obtain ⟨o7, K⟩ := K
      refine s_links2 hL (J 321 c) ((k / 40 : Nat) : Int) ((k % 40 : Nat) : Int) o5 o6 o7 ?_
      show V w 2 mX5_linksBy 182 [some (vR 313), some (vI ((c : Nat) : Int)), some (vI ((k : Nat) : Int)), none, none, none, none] [] S (lnkUp J (J 321 c).toNat ((k / 40 : Nat) : Int).toNat ((k % 40 : Nat) : Int).toNat) Q
      obtain ⟨o8, K⟩ := K
      refine v_iinc dX5_linksBy_182 rfl o8 ?_
      show V w 2 mX5_linksBy 185 [some (vR 313), some (vI ((c : Nat) : Int)), some (vI ((k + 1 : Nat) : Int)), none, none, none, none] [] S (lnkUp J (J 321 c).toNat ((k / 40 : Nat) : Int).toNat ((k % 40 : Nat) : Int).toNat) Q
      refine v_goto 142 dX5_linksBy_185 (by decide) ?_
      exact K

theorem wrow_fr {J J' : Jm} (h1 : ∀ k, J' 339 k = J 339 k) (h2 : ∀ k, J' 340 k = J 340 k) : wrow J' = wrow J := by
  funext a
  unfold wrow
  rw [h1, mr_eq]
  exact ⟨rfl, fun i _ => h2 _⟩
theorem tls_fr {J J' : Jm} {c : Nat} (h1 : J' 323 c = J 323 c) (h2 : J' 322 c = J 322 c) (A B : List Int) : tls J' c A B = tls J c A B := by
  unfold tls
  rw [h1, h2]
def FL1 (J J' : Jm) : Prop := ∀ a k, a ≠ 344 → a ≠ 341 → J' a k = J a k
theorem s_linksBy {w : Wd} {S : Sh} {J : Jm} {Q : Out → Sh → Jm → Prop} (hL : Lay S) (c : Nat) (L : List (List Int)) (hc : c < 132) (hso : 0 ≤ J 321 c ∧ J 321 c < 2) (hw : 0 ≤ J 322 c ∧ J 322 c ≤ 7) (hm : 1 ≤ J 324 c) (hW : PWh J L) (hlen : L.length ≤ 192) (hE : ∀ a, a < L.length → ∀ i, i < (L.getD a []).length → 0 ≤ (L.getD a []).getD i 0 ∧ (L.getD a []).getD i 0 < 40)
    (K : ∀ J', FL1 J J' → (∀ o u v : Nat, o < 2 → u < 40 → v < 40 → J' 341 (1600 * o + 40 * u + v) = if (o : Int) = J 321 c ∧ J 324 c ≤ (cntP u v (tpOf J c L) : Nat) then 1 else J 341 (1600 * o + 40 * u + v)) → Q (.inl none) S J') : V w 2 mX5_linksBy 0 (ent mX5_linksBy [vR 313, vI (c : Int)]) [] S J Q := by
  simp only [← hW.tp c] at K
  obtain ⟨N, hN⟩ : ∃ N : Nat, L.length = N := ⟨_, rfl⟩
  rw [hN] at K hlen hE
  have hwn : J 313 39 = N := by rw [hW.1, hN]
  have hz : ∀ a, a < N → 0 ≤ J 339 a ∧ J 339 a ≤ 6 := fun a ha => (hW.2 a (by omega)).1
  have hcell : ∀ a i : Nat, a < N → (i : Int) < J 339 a → 0 ≤ J 340 (6 * a + i) ∧ J 340 (6 * a + i) < 40 := by
    intro a i ha hi
    have := hE a ha i (by rw [← (hW.2 a (by omega)).2, wrow_len]; omega)
    rw [← (hW.2 a (by omega)).2, wrow_get hi] at this
    exact this
  obtain ⟨o0, ho0⟩ : ∃ o : Nat, J 321 c = o := ⟨(J 321 c).toNat, by omega⟩
  -- the links, out of a tally
  have phase3 : ∀ J2 : Jm, (∀ a k, a ≠ 344 → J2 a k = J a k) → (∀ u v : Nat, u < 40 → v < 40 → J2 344 (40 * u + v) = ((if u < v then cntP u v (tpO J c (wrow J) N N) else 0 : Nat) : Int)) → V w 2 mX5_linksBy 142 [some (vR 313), some (vI (c : Int)), some (vI ((0 : Nat) : Int)), none, none, none, none] [] S J2 Q := by
    intro J2 f2 t2
    refine up_loop (P := fun k J3 => (∀ a j, a ≠ 341 → J3 a j = J2 a j) ∧ ∀ o u v : Nat, o < 2 → u < 40 → v < 40 → J3 341 (1600 * o + 40 * u + v) = if o = o0 ∧ ((40 * u + v < k ∧ J 324 c ≤ J2 344 (40 * u + v)) ∨ (40 * v + u < k ∧ J 324 c ≤ J2 344 (40 * v + u))) then 1 else J 341 (1600 * o + 40 * u + v)) 1600
      (fun k J3 => V w 2 mX5_linksBy 142 [some (vR 313), some (vI (c : Int)), some (vI (k : Int)), none, none, none, none] [] S J3 Q) ?_ ?_ 0 J2 (by omega) ⟨fun _ _ _ => rfl, fun o u v _ _ _ => by rw [if_neg (by omega)]; exact f2 _ _ (by decide)⟩
    · intro k J3 hk ⟨f3, l3⟩ ih
      have e1 : J3 324 c = J 324 c := by rw [f3 _ _ (by decide), f2 _ _ (by decide)]
      have e2 : J3 321 c = o0 := by rw [f3 _ _ (by decide), f2 _ _ (by decide)]; exact ho0
      have e3 : J3 344 k = J2 344 k := f3 _ _ (by decide)
      have hkk : 40 * (k / 40) + k % 40 = k := by omega
      refine gX5_linksBy_142 (J := J3) hL c k (br_n (by omega) ⟨by omega, by omega, ?_⟩)
      rw [e1, e3]
      refine br_i (fun hb => ⟨by omega, ih J3 ⟨f3, fun o u v ho hu hv => ?_⟩⟩) (fun hb => ⟨by omega, by omega, by omega, by omega, by omega, ?_⟩)
      · rw [l3 o u v ho hu hv]
        have q1 : 40 * u + v = k → ¬ J 324 c ≤ J2 344 (40 * u + v) := fun e => by rw [e]; omega
        have q2 : 40 * v + u = k → ¬ J 324 c ≤ J2 344 (40 * v + u) := fun e => by rw [e]; omega
        have : (o = o0 ∧ ((40 * u + v < k ∧ J 324 c ≤ J2 344 (40 * u + v)) ∨ (40 * v + u < k ∧ J 324 c ≤ J2 344 (40 * v + u)))) ↔ (o = o0 ∧ ((40 * u + v < k + 1 ∧ J 324 c ≤ J2 344 (40 * u + v)) ∨ (40 * v + u < k + 1 ∧ J 324 c ≤ J2 344 (40 * v + u)))) := by
          rcases Nat.lt_trichotomy (40 * u + v) k with a1 | a1 | a1 <;> rcases Nat.lt_trichotomy (40 * v + u) k with a2 | a2 | a2 <;> first | (have := q1 a1; have := q2 a2; omega) | (have := q1 a1; omega) | (have := q2 a2; omega) | omega
        by_cases hP : (o = o0 ∧ ((40 * u + v < k ∧ J 324 c ≤ J2 344 (40 * u + v)) ∨ (40 * v + u < k ∧ J 324 c ≤ J2 344 (40 * v + u))))
        · rw [if_pos hP, if_pos (this.mp hP)]
        · rw [if_neg hP, if_neg (fun q => hP (this.mpr q))]
      · rw [e2]
        show V w 2 mX5_linksBy 142 [some (vR 313), some (vI (c : Int)), some (vI ((k + 1 : Nat) : Int)), none, none, none, none] [] S (lnkUp J3 o0 (k / 40) (k % 40)) Q
        refine ih _ ⟨fun a j ha => by rw [lnkUp_na ha]; exact f3 a j ha, fun o u v ho hu hv => ?_⟩
        rw [lnkUp_at (by omega) (by omega) (by omega) ho hu hv, l3 o u v ho hu hv]
        by_cases hm1 : o = o0 ∧ ((u = k / 40 ∧ v = k % 40) ∨ (u = k % 40 ∧ v = k / 40))
        · rw [if_pos hm1, if_pos]
          refine ⟨hm1.1, ?_⟩
          rcases hm1.2 with ⟨a1, a2⟩ | ⟨a1, a2⟩
          · exact Or.inl ⟨by omega, by rw [show 40 * u + v = k by omega]; omega⟩
          · exact Or.inr ⟨by omega, by rw [show 40 * v + u = k by omega]; omega⟩
        · rw [if_neg hm1]
          have : (o = o0 ∧ ((40 * u + v < k ∧ J 324 c ≤ J2 344 (40 * u + v)) ∨ (40 * v + u < k ∧ J 324 c ≤ J2 344 (40 * v + u)))) ↔ (o = o0 ∧ ((40 * u + v < k + 1 ∧ J 324 c ≤ J2 344 (40 * u + v)) ∨ (40 * v + u < k + 1 ∧ J 324 c ≤ J2 344 (40 * v + u)))) := by omega
          by_cases hP : (o = o0 ∧ ((40 * u + v < k ∧ J 324 c ≤ J2 344 (40 * u + v)) ∨ (40 * v + u < k ∧ J 324 c ≤ J2 344 (40 * v + u))))
          · rw [if_pos hP, if_pos (this.mp hP)]
          · rw [if_neg hP, if_neg (fun q => hP (this.mpr q))]
    · intro J3 ⟨f3, l3⟩
      refine gX5_linksBy_142 (J := J3) hL c 1600 (br_y (by omega) (K J3 (fun a k h1 h2 => by rw [f3 a k h2, f2 a k h1]) (fun o u v ho hu hv => ?_)))
      rw [l3 o u v ho hu hv, t2 u v hu hv, t2 v u hv hu, ho0]
      have hs0 : u = v → cntP u v (tpO J c (wrow J) N N) = 0 := by
        rintro rfl
        rw [← hN, hW.tp c]
        exact cntP_self _
      have hcm : cntP v u (tpO J c (wrow J) N N) = cntP u v (tpO J c (wrow J) N N) := cntP_comm _ _ _
      have : (o = o0 ∧ ((40 * u + v < 1600 ∧ J 324 c ≤ ((if u < v then cntP u v (tpO J c (wrow J) N N) else 0 : Nat) : Int)) ∨ (40 * v + u < 1600 ∧ J 324 c ≤ ((if v < u then cntP v u (tpO J c (wrow J) N N) else 0 : Nat) : Int)))) ↔ ((o : Int) = (o0 : Int) ∧ J 324 c ≤ (cntP u v (tpO J c (wrow J) N N) : Nat)) := by
        rw [hcm]
        rcases Nat.lt_trichotomy u v with a1 | a1 | a1
        · rw [if_pos a1, if_neg (by omega)]; omega
        · rw [if_neg (by omega), if_neg (by omega), hs0 a1]; omega
        · rw [if_neg (by omega), if_pos a1]; omega
      by_cases hP : ((o : Int) = (o0 : Int) ∧ J 324 c ≤ (cntP u v (tpO J c (wrow J) N N) : Nat))
      · rw [if_pos hP, if_pos (this.mpr hP)]
      · rw [if_neg hP, if_neg (fun q => hP (this.mp q))]
  -- the tally
  have phase2 : ∀ J1 : Jm, (∀ a k, a ≠ 344 → J1 a k = J a k) → (∀ u v : Nat, u < 40 → v < 40 → J1 344 (40 * u + v) = 0) → V w 2 mX5_linksBy 24 [some (vR 313), some (vI (c : Int)), some (vI ((0 : Nat) : Int)), none, none, none, none] [] S J1 Q := by
    intro J1 f1 t1
    refine up_loop (P := fun a J2 => (∀ b k, b ≠ 344 → J2 b k = J b k) ∧ ∀ u v : Nat, u < 40 → v < 40 → J2 344 (40 * u + v) = ((if u < v then cntP u v (tpO J c (wrow J) N a) else 0 : Nat) : Int)) N
      (fun a J2 => V w 2 mX5_linksBy 24 [some (vR 313), some (vI (c : Int)), some (vI (a : Int)), none, none, none, none] [] S J2 Q) ?_ ?_ 0 J1 (by omega) ⟨f1, fun u v hu hv => by rw [t1 u v hu hv]; split <;> rfl⟩
    · intro a J2 ha ⟨f2, t2⟩ ih
      have ew : J2 313 39 = N := by rw [f2 _ _ (by decide)]; exact hwn
      refine gX5_linksBy_24 (J := J2) hL c a (br_n (by omega) ⟨by omega, ?_⟩)
      refine up_loop (P := fun m J3 => (∀ b k, b ≠ 344 → J3 b k = J b k) ∧ ∀ u v : Nat, u < 40 → v < 40 → J3 344 (40 * u + v) = ((if u < v then cntP u v (tpO J c (wrow J) N a) + cntP u v (tpI J c (wrow J) a m) else 0 : Nat) : Int)) (N - (a + 1))
        (fun m J3 => V w 2 mX5_linksBy 36 [some (vR 313), some (vI (c : Int)), some (vI (a : Int)), some (vI ((a + 1 + m : Nat) : Int)), none, none, none] [] S J3 Q) ?_ ?_ 0 J2 (by omega) ⟨f2, fun u v hu hv => by rw [t2 u v hu hv]; rfl⟩
      · intro m J3 hm ⟨f3, t3⟩ ih3
        have ew3 : J3 313 39 = N := by rw [f3 _ _ (by decide)]; exact hwn
        have hr : wrow J3 = wrow J := wrow_fr (fun k => f3 _ _ (by decide)) (fun k => f3 _ _ (by decide))
        have z1 : J3 339 a = J 339 a := f3 _ _ (by decide)
        have z2 : J3 339 (a + 1 + m) = J 339 (a + 1 + m) := f3 _ _ (by decide)
        have z3 : J3 322 c = J 322 c := f3 _ _ (by decide)
        have h1 := hz a (by omega)
        have h2 := hz (a + 1 + m) (by omega)
        refine gX5_linksBy_36 (J := J3) hL c a (a + 1 + m) (br_n (by omega) ⟨by omega, by omega, by omega, by rw [← z1] at h1; exact h1, by rw [← z2] at h2; exact h2, by rw [← z3] at hw; exact hw, ?_⟩)
        simp only [Int.toNat_natCast, hr]
        rw [tls_fr (f3 _ _ (by decide)) (f3 _ _ (by decide))]
        refine br_i (fun ht => ⟨by omega, by omega, by omega, by omega, ?_⟩) (fun ht => ⟨by omega, ih3 J3 ⟨f3, fun u v hu hv => ?_⟩⟩)
        · obtain ⟨i, hu, hlt, hlt2⟩ : ∃ u : Nat, unl (wrow J a) (wrow J (a + 1 + m)) = u ∧ (u : Int) < J 339 a ∧ (u : Int) < J 339 (a + 1 + m) := by
            rcases unl_spec (wrow J a) (wrow J (a + 1 + m)) with q | ⟨e, i, e1, e2, -⟩
            · exact absurd q ht.1
            · rw [wrow_len, wrow_len] at e
              rw [wrow_len] at e2
              exact ⟨i, e1, by omega, by omega⟩
          have hne : J 340 (6 * a + i) ≠ J 340 (6 * (a + 1 + m) + i) := by
            have := tp1_ne (J := J) (c := c) (ρ := wrow J) (a := a) (b := a + 1 + m) (J 340 (6 * a + i), J 340 (6 * (a + 1 + m) + i)) (by
              unfold tp1
              rw [if_pos ht, hu, Int.toNat_natCast, wrow_get hlt, wrow_get hlt2]
              exact List.mem_singleton.mpr rfl)
            exact this
          have ep : tp1 J c (wrow J) a (a + 1 + m) = [(J 340 (6 * a + i), J 340 (6 * (a + 1 + m) + i))] := by
            unfold tp1
            rw [if_pos ht, hu, Int.toNat_natCast, wrow_get hlt, wrow_get hlt2]
          have c1 := hcell a i (by omega) hlt
          have c2 := hcell (a + 1 + m) i (by omega) hlt2
          have w1 : J3 340 (6 * a + i) = J 340 (6 * a + i) := f3 _ _ (by decide)
          have w2 : J3 340 (6 * (a + 1 + m) + i) = J 340 (6 * (a + 1 + m) + i) := f3 _ _ (by decide)
          obtain ⟨p, hp⟩ : ∃ p : Nat, J 340 (6 * a + i) = p := ⟨(J 340 (6 * a + i)).toNat, by omega⟩
          obtain ⟨q, hq⟩ : ∃ p : Nat, J 340 (6 * (a + 1 + m) + i) = p := ⟨(J 340 (6 * (a + 1 + m) + i)).toNat, by omega⟩
          have e1 : (((6 * a : Nat) : Int) + (i : Int)).toNat = 6 * a + i := by omega
          have e2 : (((6 * (a + 1 + m) : Nat) : Int) + (i : Int)).toNat = 6 * (a + 1 + m) + i := by omega
          simp only [hu]
          repeat' (first | (refine And.intro ?_ ?_; omega))
          rw [e1, e2, w1, w2, hp, hq]
          rw [hp, hq] at ep hne
          -- one more of the two
          have hbd : ∀ u v : Nat, u < 40 → v < 40 → (0 ≤ J3 344 (40 * u + v) ∧ J3 344 (40 * u + v) ≤ 40000) := by
            intro u v hu hv
            rw [t3 u v hu hv]
            have b1 := cntP_le u v (tpO J c (wrow J) N a)
            have b2 := tpO_len J c (wrow J) N a
            have b3 : a * N ≤ 192 * 192 := Nat.mul_le_mul (by omega) hlen
            have b4 := cntP_le u v (tpI J c (wrow J) a m)
            have b5 := tpI_len J c (wrow J) a m
            split <;> omega
          have step : ∀ g h : Nat, g < h → h < 40 → ((g = p ∧ h = q) ∨ (g = q ∧ h = p)) → V w 2 mX5_linksBy 36 [some (vR 313), some (vI (c : Int)), some (vI (a : Int)), some (vI ((a + 1 + (m + 1) : Nat) : Int)), none, none, none] [] S (up J3 344 (40 * g + h) (J3 344 (40 * g + h) + 1)) Q := by
            intro g h hgh hh hpq
            refine ih3 _ ⟨fun b k hb => by rw [up_na hb]; exact f3 b k hb, fun u v hu hv => ?_⟩
            unfold tpI
            rw [cntP_app, ep, cntP_1]
            by_cases hk : 40 * u + v = 40 * g + h
            · obtain rfl : u = g := by omega
              obtain rfl : v = h := by omega
              rw [up_self, t3 u v hu hv, if_pos hgh, if_pos hgh, if_pos (by omega)]
              omega
            · rw [up_nk hk, t3 u v hu hv]
              by_cases huv : u < v
              · rw [if_pos huv, if_pos huv, if_neg (by omega)]
                rfl
              · rw [if_neg huv, if_neg huv]
          have b1 := hbd p q (by omega) (by omega)
          have b2 := hbd q p (by omega) (by omega)
          refine br_i (fun hb => ?_) (fun hb => ?_)
          · rw [show ((40 * (q : Int)) + (p : Int)).toNat = 40 * q + p by omega]
            repeat' (first | (refine And.intro ?_ ?_; omega))
            exact step q p (by omega) (by omega) (Or.inr ⟨rfl, rfl⟩)
          · rw [show ((40 * (p : Int)) + (q : Int)).toNat = 40 * p + q by omega]
            repeat' (first | (refine And.intro ?_ ?_; omega))
            exact step p q (by omega) (by omega) (Or.inl ⟨rfl, rfl⟩)
        · rw [t3 u v hu hv]
          have eI : tpI J c (wrow J) a (m + 1) = tpI J c (wrow J) a m ++ tp1 J c (wrow J) a (a + 1 + m) := rfl
          rw [eI, show tp1 J c (wrow J) a (a + 1 + m) = [] from if_neg ht, List.append_nil]
      · intro J3 ⟨f3, t3⟩
        have ew3 : J3 313 39 = N := by rw [f3 _ _ (by decide)]; exact hwn
        refine gX5_linksBy_36 (J := J3) hL c a (a + 1 + (N - (a + 1))) (br_y (by omega) ⟨by omega, ih J3 ⟨f3, fun u v hu hv => ?_⟩⟩)
        rw [t3 u v hu hv]
        have eO : tpO J c (wrow J) N (a + 1) = tpO J c (wrow J) N a ++ tpI J c (wrow J) a (N - (a + 1)) := rfl
        rw [eO, cntP_app]
    · intro J2 ⟨f2, t2⟩
      refine gX5_linksBy_24 (J := J2) hL c N (br_y (by rw [f2 _ _ (by decide)]; omega) ?_)
      exact phase3 J2 f2 t2
  refine gX5_linksBy_0 hL c ?_
  refine up_loop (P := fun k J1 => (∀ a j, a ≠ 344 → J1 a j = J a j) ∧ ∀ j : Nat, j < k → J1 344 j = 0) 1600
    (fun k J1 => V w 2 mX5_linksBy 2 [some (vR 313), some (vI (c : Int)), some (vI (k : Int)), none, none, none, none] [] S J1 Q) ?_ ?_ 0 J (by omega) ⟨fun _ _ _ => rfl, fun j hj => absurd hj (by omega)⟩
  · intro k J1 hk ⟨f1, h1⟩ ih
    refine gX5_linksBy_2 hL c k (br_n (by omega) ⟨by omega, by omega, ih _ ⟨fun a j ha => by rw [up_na ha]; exact f1 a j ha, fun j hj => ?_⟩⟩)
    by_cases hjs : j = k
    · rw [hjs, up_self]
    · rw [up_nk hjs]; exact h1 j (by omega)
  · intro J1 ⟨f1, h1⟩
    exact gX5_linksBy_2 hL c 1600 (br_y (by omega) (phase2 J1 f1 (fun u v hu hv => h1 _ (by omega))))
