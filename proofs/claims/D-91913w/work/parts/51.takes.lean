/-! the model: names that are taken -/
set_option maxRecDepth 100000
theorem gX5_nameCounts_0 {w : Wd} {S : Sh} {J : Jm} {Q : Out → Sh → Jm → Prop} (hL : Lay S) (n : Int) (known : Int)
    (K : (0 ≤ n) ∧ (n < 6) ∧ Br ((J 351 n.toNat) ≤ known ∧ known < (J 352 n.toNat)) ((n < 7) ∧ (0 ≤ (J 350 n.toNat) ∧ (J 350 n.toNat) < 24) ∧ Br (J 314 (J 350 n.toNat).toNat ≤ known ∧ known < J 315 (J 350 n.toNat).toNat) (Q (.inl (some (vI 1))) S J) (Q (.inl (some (vI 0))) S J)) (Q (.inl (some (vI 0))) S J)) :
    V w 2 mX5_nameCounts 0 (ent mX5_nameCounts [vR 313, vI n, vI known]) [] S J Q := by
  show V w 2 mX5_nameCounts 0 [some (vR 313), some (vI n), some (vI known)] [] S J Q
  refine v_aload_n dX5_nameCounts_0 rfl ?_
  refine v_getR dX5_nameCounts_1 frX5_130_5 rfl (L_313 hL).1 (LR_313_59 hL) (Or.inl rfl) ?_
  refine v_iload_n dX5_nameCounts_4 rfl ?_
  obtain ⟨o1, K⟩ := K
  obtain ⟨o2, K⟩ := K
  refine ld_351 dX5_nameCounts_5 hL o1 o2 ?_
  refine v_aload_n dX5_nameCounts_6 rfl ?_
  refine v_getR dX5_nameCounts_7 frX5_133_5 rfl (L_313 hL).1 (LR_313_60 hL) (Or.inl rfl) ?_
  refine v_iload_n dX5_nameCounts_10 rfl ?_
  refine ld_352 dX5_nameCounts_11 hL o1 o2 ?_
  refine v_iload_n dX5_nameCounts_12 rfl ?_
  refine v_callS (d' := 0) (rest := []) [vI (J 351 n.toNat), vI (J 352 n.toNat), vI known] dX5_nameCounts_13 srX5_177 rfl (one_I (one_I (one_I one_nil))) (Nat.le_of_ble_eq_true rfl) (Nat.le_of_ble_eq_true rfl) (Nat.le_of_ble_eq_true rfl) ?_
  obtain ⟨K1, K2⟩ := K
  refine sX5_counts hL (J 351 n.toNat) (J 352 n.toNat) known  (fun c1 => ?_) (fun c1 => ?_)
  · have K := K1 c1
    show V w 2 mX5_nameCounts 16 [some (vR 313), some (vI n), some (vI known)] [vI 1] S J Q
    refine v_if_eq 37 dX5_nameCounts_16 (by decide) (fun cQ => absurd cQ (by decide)) (fun _ => ?_)
    refine v_aload_n dX5_nameCounts_19 rfl ?_
    refine v_aload_n dX5_nameCounts_20 rfl ?_
    refine v_getR dX5_nameCounts_21 frX5_127_5 rfl (L_313 hL).1 (LR_313_58 hL) (Or.inl rfl) ?_
    refine v_iload_n dX5_nameCounts_24 rfl ?_
    obtain ⟨o3, K⟩ := K
    refine ld_350 dX5_nameCounts_25 hL o1 o3 ?_
    refine v_iload_n dX5_nameCounts_26 rfl ?_
    refine v_callV (d' := 1) (rest := []) [vI (J 350 n.toNat), vI known] dX5_nameCounts_27 vrX5_314_5 (L_313 hL).1 rfl rfl (one_I (one_I one_nil)) (Nat.le_of_ble_eq_true rfl) (Nat.le_of_ble_eq_true rfl) (Nat.le_of_ble_eq_true rfl) ?_
    obtain ⟨o4, K⟩ := K
    obtain ⟨K1, K2⟩ := K
    refine sX5_tabletCounts hL (J 350 n.toNat) known o4 (fun c2 => ?_) (fun c2 => ?_)
    · have K := K1 c2
      show V w 2 mX5_nameCounts 30 [some (vR 313), some (vI n), some (vI known)] [vI 1] S J Q
      refine v_if_eq 37 dX5_nameCounts_30 (by decide) (fun cQ => absurd cQ (by decide)) (fun _ => ?_)
      refine v_iconst dX5_nameCounts_33 (in_lit (by decide)) ?_
      refine v_goto 38 dX5_nameCounts_34 (by decide) ?_
      exact v_iret dX5_nameCounts_38 rfl (by decide) K
    · have K := K2 c2
      show V w 2 mX5_nameCounts 30 [some (vR 313), some (vI n), some (vI known)] [vI 0] S J Q
      refine v_if_eq 37 dX5_nameCounts_30 (by decide) (fun _ => ?_) (fun cQ => absurd cQ (by decide))
      refine v_iconst dX5_nameCounts_37 (in_lit (by decide)) ?_
      exact v_iret dX5_nameCounts_38 rfl (by decide) K
  · have K := K2 c1
    show V w 2 mX5_nameCounts 16 [some (vR 313), some (vI n), some (vI known)] [vI 0] S J Q
    refine v_if_eq 37 dX5_nameCounts_16 (by decide) (fun _ => ?_) (fun cQ => absurd cQ (by decide))
    refine v_iconst dX5_nameCounts_37 (in_lit (by decide)) ?_
    exact v_iret dX5_nameCounts_38 rfl (by decide) K

/-- a name counts, and its tablet -/
def nacB (J : Jm) (known : Int) (n : Nat) : Bool := namB J known n && tabB J known (J 350 n).toNat
theorem s_nameCounts {w : Wd} {S : Sh} {J : Jm} {Q : Out → Sh → Jm → Prop} (hL : Lay S) (n known : Int) (hn : 0 ≤ n ∧ n < 6) (ho : 0 ≤ J 350 n.toNat ∧ J 350 n.toNat < 24) (K1 : nacB J known n.toNat = true → Q (.inl (some (vI 1))) S J) (K2 : ¬ nacB J known n.toNat = true → Q (.inl (some (vI 0))) S J) : V w 2 mX5_nameCounts 0 (ent mX5_nameCounts [vR 313, vI n, vI known]) [] S J Q := by
  unfold nacB namB tabB at K1 K2
  simp only [Bool.and_eq_true, decide_eq_true_iff] at K1 K2
  refine gX5_nameCounts_0 hL n known ⟨by omega, by omega, br_i (fun h1 => ⟨by omega, ho, br_i (fun h2 => K1 ⟨h1, h2⟩) (fun h2 => K2 (fun q => h2 q.2))⟩) (fun h1 => K2 (fun q => h1 q.1))⟩
theorem gX5_takes_0 {w : Wd} {S : Sh} {J : Jm} {Q : Out → Sh → Jm → Prop} (hL : Lay S) (known : Int) (but : Int)
    (K : (MHeld J) ∧ (MTab J) ∧ (MTxt J) ∧ (MShr J) ∧ (∀ (J1 : Jm), PLk J known J1 → V w 4 mX5_takes 12 [some (vR 313), some (vI known), some (vI but), some (vI 0)] [] S (up J1 313 64 0) Q)) :
    V w 4 mX5_takes 0 (ent mX5_takes [vR 313, vI known, vI but]) [] S J Q := by
  show V w 4 mX5_takes 0 [some (vR 313), some (vI known), some (vI but), none] [] S J Q
  refine v_aload_n dX5_takes_0 rfl ?_
  refine v_iload_n dX5_takes_1 rfl ?_
  refine v_callV (d' := 3) (rest := []) [vI known] dX5_takes_2 vrX5_345_5 (L_313 hL).1 rfl rfl (one_I one_nil) (Nat.le_of_ble_eq_true rfl) (Nat.le_of_ble_eq_true rfl) (Nat.le_of_ble_eq_true rfl) ?_
  obtain ⟨o1, K⟩ := K
  obtain ⟨o2, K⟩ := K
  obtain ⟨o3, K⟩ := K
  obtain ⟨o4, K⟩ := K
  refine s_findLinks hL known o1 o2 o3 o4 (fun J1 hp => ?_)
  have K := K J1 hp
  show V w 4 mX5_takes 5 [some (vR 313), some (vI known), some (vI but), none] [] S J1 Q
  refine v_aload_n dX5_takes_5 rfl ?_
  refine v_iconst dX5_takes_6 (in_lit (by decide)) ?_
  refine v_putI dX5_takes_7 frX5_414_5 (fun _ _ _ h => by cases h; exact Or.inl rfl) rfl rfl zfit_int (L_313 hL).1 ?_
  show V w 4 mX5_takes 10 [some (vR 313), some (vI known), some (vI but), none] [] S (up J1 313 64 0) Q
  refine v_iconst dX5_takes_10 (in_lit (by decide)) ?_
  refine v_istore_n dX5_takes_11 (Nat.le_of_ble_eq_true rfl) ?_
  show V w 4 mX5_takes 12 [some (vR 313), some (vI known), some (vI but), some (vI 0)] [] S (up J1 313 64 0) Q
  exact K
theorem gX5_takes_12 {w : Wd} {S : Sh} {J : Jm} {Q : Out → Sh → Jm → Prop} (hL : Lay S) (known : Int) (but : Int) (n : Nat)
    (K : Br (J 313 55 ≤ ((n : Nat) : Int)) (Q (.inl none) S J) ((0 ≤ ((n : Nat) : Int) ∧ ((n : Nat) : Int) < 6) ∧ (0 ≤ J 350 ((n : Nat) : Int).toNat ∧ J 350 ((n : Nat) : Int).toNat < 24) ∧ Br (nacB J known ((n : Nat) : Int).toNat = true) (Br (zand (zshr but ((n : Nat) : Int)) 1 = 1) ((-2147483648 ≤ ((n : Nat) : Int) + 1 ∧ ((n : Nat) : Int) + 1 ≤ 2147483647) ∧ V w 4 mX5_takes 12 [some (vR 313), some (vI known), some (vI but), some (vI ((n + 1 : Nat) : Int))] [] S J Q) ((0 ≤ ((n : Nat) : Int) ∧ ((n : Nat) : Int) < 7) ∧ (MTxt J) ∧ (NamAt J ((n : Nat) : Int).toNat) ∧ (∀ (J1 : Jm), PSp J ((n : Nat) : Int).toNat known J1 → (0 ≤ J1 313 64) ∧ (J1 313 64 < 7) ∧ (-2147483648 ≤ (J1 313 64) + 1 ∧ (J1 313 64) + 1 ≤ 2147483647) ∧ (-2147483648 ≤ ((n : Nat) : Int) + 1 ∧ ((n : Nat) : Int) + 1 ≤ 2147483647) ∧ V w 4 mX5_takes 12 [some (vR 313), some (vI known), some (vI but), some (vI ((n + 1 : Nat) : Int))] [] S (up (up J1 356 (J1 313 64).toNat ((n : Nat) : Int)) 313 64 ((J1 313 64) + 1)) Q))) ((-2147483648 ≤ ((n : Nat) : Int) + 1 ∧ ((n : Nat) : Int) + 1 ≤ 2147483647) ∧ V w 4 mX5_takes 12 [some (vR 313), some (vI known), some (vI but), some (vI ((n + 1 : Nat) : Int))] [] S J Q))) :
    V w 4 mX5_takes 12 [some (vR 313), some (vI known), some (vI but), some (vI ((n : Nat) : Int))] [] S J Q := by
  refine v_iload_n dX5_takes_12 rfl ?_
  refine v_aload_n dX5_takes_13 rfl ?_
  refine v_getI dX5_takes_14 frX5_383_5 rfl rfl (L_313 hL).1 ?_
  obtain ⟨K1, K2⟩ := K
  refine v_icmp_ge 73 dX5_takes_17 (by decide) (fun c1 => ?_) (fun c1 => ?_)
  · have K := K1 c1
    exact v_vret dX5_takes_73 rfl K
  · have K := K2 c1
    refine v_aload_n dX5_takes_20 rfl ?_
    refine v_iload_n dX5_takes_21 rfl ?_
    refine v_iload_n dX5_takes_22 rfl ?_
    refine v_callV (d' := 2) (rest := []) [vI ((n : Nat) : Int), vI known] dX5_takes_23 vrX5_429_5 (L_313 hL).1 rfl rfl (one_I (one_I one_nil)) (Nat.le_of_ble_eq_true rfl) (Nat.le_of_ble_eq_true rfl) (Nat.le_of_ble_eq_true rfl) ?_
    obtain ⟨o1, K⟩ := K
    obtain ⟨o2, K⟩ := K
    obtain ⟨K1, K2⟩ := K
    refine s_nameCounts hL ((n : Nat) : Int) known o1 o2 (fun c2 => ?_) (fun c2 => ?_)
    · have K := K1 c2
      show V w 4 mX5_takes 26 [some (vR 313), some (vI known), some (vI but), some (vI ((n : Nat) : Int))] [vI 1] S J Q
      refine v_if_eq 67 dX5_takes_26 (by decide) (fun cQ => absurd cQ (by decide)) (fun _ => ?_)
      refine v_iload_n dX5_takes_29 rfl ?_
      refine v_iload_n dX5_takes_30 rfl ?_
      refine v_ishr dX5_takes_31 ?_
      refine v_iconst dX5_takes_32 (in_lit (by decide)) ?_
      refine v_iand dX5_takes_33 ?_
      refine v_iconst dX5_takes_34 (in_lit (by decide)) ?_
      obtain ⟨K1, K2⟩ := K
      refine v_icmp_ne 41 dX5_takes_35 (by decide) (fun c3 => ?_) (fun c3 => ?_)
      · have K := K2 c3
        refine v_aload_n dX5_takes_41 rfl ?_
        refine v_iload_n dX5_takes_42 rfl ?_
        refine v_iload_n dX5_takes_43 rfl ?_
        refine v_callV (d' := 2) (rest := []) [vI ((n : Nat) : Int), vI known] dX5_takes_44 vrX5_401_5 (L_313 hL).1 rfl rfl (one_I (one_I one_nil)) (Nat.le_of_ble_eq_true rfl) (Nat.le_of_ble_eq_true rfl) (Nat.le_of_ble_eq_true rfl) ?_
        obtain ⟨o3, K⟩ := K
        obtain ⟨o4, K⟩ := K
        obtain ⟨o5, K⟩ := K
        refine s_spellsI hL ((n : Nat) : Int) known o3 o4 o5 (fun J1 hp => ?_)
        have K := K J1 hp
        show V w 4 mX5_takes 47 [some (vR 313), some (vI known), some (vI but), some (vI ((n : Nat) : Int))] [] S J1 Q
        refine v_aload_n dX5_takes_47 rfl ?_
        refine v_getR dX5_takes_48 frX5_145_5 rfl (L_313 hL).1 (LR_313_65 hL) (Or.inl rfl) ?_
        refine v_aload_n dX5_takes_51 rfl ?_
        refine v_getI dX5_takes_52 frX5_414_5 rfl rfl (L_313 hL).1 ?_
        refine v_iload_n dX5_takes_55 rfl ?_
        obtain ⟨o6, K⟩ := K
        obtain ⟨o7, K⟩ := K
        refine st_356 dX5_takes_56 hL o6 o7 ?_
        show V w 4 mX5_takes 57 [some (vR 313), some (vI known), some (vI but), some (vI ((n : Nat) : Int))] [] S (up J1 356 (J1 313 64).toNat ((n : Nat) : Int)) Q
        refine v_aload_n dX5_takes_57 rfl ?_
        refine v_dup dX5_takes_58 trivial ?_
        refine v_getI dX5_takes_59 frX5_414_5 rfl rfl (L_313 hL).1 ?_
        show V w 4 mX5_takes 62 [some (vR 313), some (vI known), some (vI but), some (vI ((n : Nat) : Int))] [vI (J1 313 64), vR 313] S (up J1 356 (J1 313 64).toNat ((n : Nat) : Int)) Q
        refine v_iconst dX5_takes_62 (in_lit (by decide)) ?_
        obtain ⟨o8, K⟩ := K
        refine v_iadd dX5_takes_63 o8 ?_
        refine v_putI dX5_takes_64 frX5_414_5 (fun _ _ _ h => by cases h; exact Or.inl rfl) rfl rfl zfit_int (L_313 hL).1 ?_
        show V w 4 mX5_takes 67 [some (vR 313), some (vI known), some (vI but), some (vI ((n : Nat) : Int))] [] S (up (up J1 356 (J1 313 64).toNat ((n : Nat) : Int)) 313 64 ((J1 313 64) + 1)) Q
        obtain ⟨o9, K⟩ := K
        refine v_iinc dX5_takes_67 rfl o9 ?_
        show V w 4 mX5_takes 70 [some (vR 313), some (vI known), some (vI but), some (vI ((n + 1 : Nat) : Int))] [] S (up (up J1 356 (J1 313 64).toNat ((n : Nat) : Int)) 313 64 ((J1 313 64) + 1)) Q
        refine v_goto 12 dX5_takes_70 (by decide) ?_
        exact K
      · have K := K1 c3
        refine v_goto 67 dX5_takes_38 (by decide) ?_
        obtain ⟨o10, K⟩ := K
        refine v_iinc dX5_takes_67 rfl o10 ?_
        show V w 4 mX5_takes 70 [some (vR 313), some (vI known), some (vI but), some (vI ((n + 1 : Nat) : Int))] [] S J Q
        refine v_goto 12 dX5_takes_70 (by decide) ?_
        exact K
    · have K := K2 c2
      show V w 4 mX5_takes 26 [some (vR 313), some (vI known), some (vI but), some (vI ((n : Nat) : Int))] [vI 0] S J Q
      refine v_if_eq 67 dX5_takes_26 (by decide) (fun _ => ?_) (fun cQ => absurd cQ (by decide))
      obtain ⟨o11, K⟩ := K
      refine v_iinc dX5_takes_67 rfl o11 ?_
      show V w 4 mX5_takes 70 [some (vR 313), some (vI known), some (vI but), some (vI ((n + 1 : Nat) : Int))] [] S J Q
      refine v_goto 12 dX5_takes_70 (by decide) ?_
      exact K

noncomputable def agB (J : Jm) (known : Int) (s : Nat) (c : Int) (o : Nat) (d : Int) : Bool := @decide (¬ c = d ∧ (clsL J known 0 s = clsL J known 0 o → c / 5 = d / 5) ∧ (clsL J known 1 s = clsL J known 1 o → c % 5 = d % 5) ∧ (PT J known 0 s o → ¬ c / 5 = d / 5) ∧ (PT J known 1 s o → ¬ c % 5 = d % 5)) (Classical.propDecidable _)
/-- what ways rest on, for names by their numbers -/
noncomputable def envOf (J : Jm) (known : Int) (L : List Nat) : WE := (labOf (EH J known), agB J known, fun j => L.getD j 0, fun j => (J 350 (L.getD j 0)).toNat, fun j => spOf J (L.getD j 0) known, fun t => (J 316 t).toNat, fun r => (J 317 r).toNat, fun r i => J 318 (6 * r + i))
/-- a name is taken: it counts, and isn't among some -/
def tkB (J : Jm) (known but : Int) (n : Nat) : Bool := nacB J known n && !decide (zand (zshr but (n : Int)) 1 = 1)
def tkU (J : Jm) (known but : Int) : Nat → List Nat
  | 0 => []
  | n + 1 => tkU J known but n ++ if tkB J known but n = true then [n] else []
theorem tkU_len (J : Jm) (known but : Int) : ∀ n, (tkU J known but n).length ≤ n
  | 0 => Nat.le_refl _
  | n + 1 => by
    have := tkU_len J known but n
    rw [tkU, List.length_append]
    split <;> simp <;> omega
theorem tkU_mem {J : Jm} {known but : Int} {k : Nat} : ∀ n, k ∈ tkU J known but n ↔ k < n ∧ tkB J known but k = true
  | 0 => by simp [tkU]
  | n + 1 => by
    rw [tkU, List.mem_append, tkU_mem n]
    constructor
    · rintro (h | h)
      · exact ⟨by omega, h.2⟩
      · split at h
        · rename_i q
          rw [List.mem_singleton.mp h]
          exact ⟨by omega, q⟩
        · cases h
    · rintro ⟨h1, h2⟩
      by_cases e : k = n
      · subst e
        rw [if_pos h2]
        exact Or.inr (List.mem_singleton.mpr rfl)
      · exact Or.inl ⟨by omega, h2⟩
def tkF (J J' : Jm) : Prop := ∀ b k, lkS b k = false → b ≠ 356 → b ≠ 353 → b ≠ 354 → b ≠ 355 → ¬ (b = 313 ∧ k = 64) → J' b k = J b k
theorem scr_lk {b k : Nat} (h : lkS b k = true) : scr b k = true := by
  have h1 : Kp (fun _ _ => 0) (fun b k => if lkS b k = true then 1 else 0) := FLk.kp (fun a k q => by rw [if_neg (by rw [q]; decide)])
  cases hs : scr b k with
  | true => rfl
  | false =>
    have h2 : (if lkS b k = true then (1 : Int) else 0) = 0 := h1 b k hs
    rw [if_pos h] at h2
    exact absurd h2 (by decide)
theorem tkF.kp {J J' : Jm} (h : tkF J J') : Kp J J' := fun b k q => h b k (by
  cases hl : lkS b k with
  | false => rfl
  | true => rw [scr_lk hl] at q; cases q) (fun e => by subst e; cases q) (fun e => by subst e; cases q) (fun e => by subst e; cases q) (fun e => by subst e; cases q) (fun e => by obtain ⟨rfl, rfl⟩ := e; cases q)
theorem clC_in {c v : Int} (hc : c = 0 ∨ (97 ≤ c ∧ c ≤ 122)) (hv : 0 ≤ v ∧ v ≤ 4) : 0 ≤ clC c v ∧ clC c v ≤ 134 := by
  unfold clC
  split <;> omega
theorem spC_in {W : Nat → Int} {dr : Int → Bool} {n i : Nat} (hW : 97 ≤ W i ∧ W i ≤ 122) : ∀ z ∈ spC W dr n i, 0 ≤ z ∧ z ≤ 134 := by
  intro z hz
  unfold spC at hz
  have h1 := vwI_in (W i)
  have h2 := vfI_in W n i
  split at hz
  · split at hz
    · cases hz
    · split at hz
      · cases hz
      · rw [List.mem_singleton.mp hz]
        exact clC_in (Or.inr hW) (by omega)
  · split at hz
    · rw [List.mem_singleton.mp hz]
      exact clC_in (Or.inl rfl) (by omega)
    · cases hz
theorem spA_in {W : Nat → Int} {dr : Int → Bool} {n : Nat} : ∀ i, (∀ k, k < i → 97 ≤ W k ∧ W k ≤ 122) → ∀ z ∈ spA W dr n i, 0 ≤ z ∧ z ≤ 134
  | 0, _, z, hz => by cases hz
  | i + 1, h, z, hz => by
    rw [spA] at hz
    rcases List.mem_append.mp hz with hz | hz
    · exact spA_in i (fun k hk => h k (by omega)) z hz
    · exact spC_in (h i (by omega)) z hz
theorem inC_of {cs : List Int} (h : ∀ z ∈ cs, 0 ≤ z ∧ z ≤ 134) : inC cs := fun i => by
  rcases Nat.lt_or_ge i cs.length with q | q
  · rw [List.getD_eq_getElem?_getD, List.getElem?_eq_getElem q]
    exact h _ (List.getElem_mem q)
  · rw [List.getD_eq_getElem?_getD, List.getElem?_eq_none q]
    exact ⟨by decide, by decide⟩
theorem spOf_in {J : Jm} {n : Nat} (hX : MTxt J) (hN : NamAt J n) (known : Int) : inC (spOf J n known) ∧ (spOf J n known).length ≤ 8 := by
  have h1 := hN.1
  have hl := spA_len (spW J n known) (drI J (rbOf J known)) (J 348 n).toNat (J 348 n).toNat
  refine ⟨inC_of (spA_in _ (fun k hk => wrI_in hX (rbOf_ok hX known) (hN.2 k (by omega)))), ?_⟩
  unfold spOf
  omega
theorem StAt_of {J J0 J1 : Jm} {known : Int} (hT : MTab J) (hX : MTxt J) (h : Mp J J0) (hp : PLk J0 known J1) : StAt J1 (labOf (EH J known)) (agB J known) := by
  obtain ⟨p1, p2, p3, p4, p5, p6⟩ := hp.mp hT hX h
  refine ⟨fun s hs => ⟨p2 s hs, lab40 _ hs⟩, fun s o hs ho c d hc hd => ?_⟩
  have a1 := p6 0 s (by decide) hs
  have a2 := p6 0 o (by decide) ho
  have a3 := p6 1 s (by decide) hs
  have a4 := p6 1 o (by decide) ho
  have b1 := p5 0 s o (by decide) hs ho
  have b2 := p5 1 s o (by decide) hs ho
  rw [show 40 * 0 + s = s by omega] at a1
  rw [show 40 * 0 + o = o by omega] at a2
  rw [show 40 * 1 + s = 40 + s by omega] at a3
  rw [show 40 * 1 + o = 40 + o by omega] at a4
  rw [show 1600 * 0 + 40 * s + o = 40 * s + o by omega] at b1
  rw [show 1600 * 1 + 40 * s + o = 1600 + 40 * s + o by omega] at b2
  have c1 : ¬ J1 342 (40 * s + o) = 0 ↔ PT J known 0 s o := by
    rcases b1 with q | q <;> constructor <;> intro z <;> simp_all
  have c2 : ¬ J1 342 (1600 + 40 * s + o) = 0 ↔ PT J known 1 s o := by
    rcases b2 with q | q <;> constructor <;> intro z <;> simp_all
  unfold agJ agB
  rw [a1, a2, a3, a4]
  apply Bool.eq_iff_iff.mpr
  refine Iff.trans decide_eq_true_iff (Iff.trans ?_ (@decide_eq_true_iff _ (Classical.propDecidable _)).symm)
  rw [c1, c2, Int.natCast_inj, Int.natCast_inj]

theorem s_takes {w : Wd} {S : Sh} {J : Jm} {Q : Out → Sh → Jm → Prop} (hL : Lay S) (known but : Int) (hH : MHeld J) (hT : MTab J) (hX : MTxt J) (hS : MShr J) (hN : MNam J) (K : ∀ J', tkF J J' → EnvAt J' (envOf J known (tkU J known but (J 313 55).toNat)) (tkU J known but (J 313 55).toNat).length → Q (.inl none) S J') : V w 4 mX5_takes 0 (ent mX5_takes [vR 313, vI known, vI but]) [] S J Q := by
  have hN1 := hN.1
  have hT1 := hT.1
  obtain ⟨M, eM⟩ : ∃ M : Nat, J 313 55 = M := ⟨(J 313 55).toNat, by omega⟩
  rw [eM, Int.toNat_natCast] at K
  refine gX5_takes_0 hL known but ⟨hH, hT, hX, hS, fun J1 hp => ?_⟩
  have fl : FLk J J1 := hp.1
  have hSt := StAt_of hT hX Mp.rfl' hp
  -- what holds ahead of the n-th name
  have loop : ∀ (m n : Nat) (J2 : Jm), n + m = M → tkF J J2 → StAt J2 (labOf (EH J known)) (agB J known) → J2 313 64 = (((tkU J known but n).length : Nat) : Int) → (∀ j, j < (tkU J known but n).length → J2 356 j = (((tkU J known but n).getD j 0 : Nat) : Int) ∧ (tkU J known but n).getD j 0 < n ∧ CsAt J2 ((tkU J known but n).getD j 0) (spOf J ((tkU J known but n).getD j 0) known)) → V w 4 mX5_takes 12 [some (vR 313), some (vI known), some (vI but), some (vI (n : Int))] [] S J2 Q := by
    intro m
    induction m with
    | zero =>
      intro n J2 hn f2 s2 e2 c2
      obtain rfl : n = M := by omega
      have en : J2 313 55 = (n : Int) := by rw [f2.kp _ _ rfl]; exact eM
      refine gX5_takes_12 (J := J2) hL known but n (br_y (by omega) ?_)
      have hlen := tkU_len J known but n
      have fin1 : ∀ q : Nat, q < n → (J2 350 q = (((J 350 q).toNat : Nat) : Int) ∧ (J 350 q).toNat < 24) ∧ (J2 316 (J 350 q).toNat = (((J 316 (J 350 q).toNat).toNat : Nat) : Int) ∧ (J 316 (J 350 q).toNat).toNat ≤ 8) ∧ ∀ u, u < (J 316 (J 350 q).toNat).toNat → RwAt J2 (8 * (J 350 q).toNat + u) (fun i => J 318 (6 * (8 * (J 350 q).toNat + u) + i)) (J 317 (8 * (J 350 q).toNat + u)).toNat := by
        intro q hq
        obtain ⟨b1, b2⟩ := hN.2 q (by omega)
        have eo : J2 350 q = J 350 q := f2.kp _ _ (by unfold scr; simp; omega)
        obtain ⟨t, et⟩ : ∃ t : Nat, J 350 q = t := ⟨(J 350 q).toNat, by omega⟩
        have ht := hT.2 t (by omega)
        have e1 : J2 316 t = J 316 t := f2.kp _ _ (by unfold scr; simp; omega)
        rw [eo, et, Int.toNat_natCast, e1]
        refine ⟨⟨rfl, by omega⟩, ⟨by omega, by omega⟩, fun u hu => ?_⟩
        obtain ⟨h5, h6⟩ := ht.2 u (by omega)
        have e3 : J2 317 (8 * t + u) = J 317 (8 * t + u) := f2.kp _ _ (by unfold scr; simp; omega)
        refine ⟨by rw [e3]; omega, by omega, fun i hi => ?_⟩
        have e4 : J2 318 (6 * (8 * t + u) + i) = J 318 (6 * (8 * t + u) + i) := f2.kp _ _ (by unfold scr; simp; omega)
        exact ⟨e4, h6 i (by omega)⟩
      refine K J2 f2 ⟨e2, by omega, fun j hj => ?_, s2⟩
      obtain ⟨a1, a2, a3⟩ := c2 j hj
      have h9 := fin1 _ a2
      exact ⟨⟨a1, Nat.lt_of_lt_of_le a2 (by omega)⟩, h9.1, a3, h9.2.1, h9.2.2⟩
    | succ m ih =>
      intro n J2 hn f2 s2 e2 c2
      have hm := f2.kp.mp
      have en : J2 313 55 = (M : Int) := by rw [f2.kp _ _ rfl]; exact eM
      obtain ⟨b1, b2⟩ := hN.2 n (by omega)
      have eo : J2 350 n = J 350 n := f2.kp _ _ (by unfold scr; simp; omega)
      have hlen := tkU_len J known but n
      have hnac : nacB J2 known n = nacB J known n := by
        unfold nacB namB tabB
        rw [eo, hm 351 _ rfl, hm 352 _ rfl, hm 314 _ rfl, hm 315 _ rfl]
      have eU : tkU J known but (n + 1) = tkU J known but n ++ if tkB J known but n = true then [n] else [] := rfl
      have skip : ¬ tkB J known but n = true → V w 4 mX5_takes 12 [some (vR 313), some (vI known), some (vI but), some (vI ((n + 1 : Nat) : Int))] [] S J2 Q := by
        intro q
        rw [if_neg q, List.append_nil] at eU
        refine ih (n + 1) J2 (by omega) f2 s2 (by rw [eU]; exact e2) (fun j hj => ?_)
        rw [eU] at hj ⊢
        obtain ⟨a1, a2, a3⟩ := c2 j hj
        exact ⟨a1, by omega, a3⟩
      refine gX5_takes_12 (J := J2) hL known but n (br_n (by omega) ?_)
      rw [Int.toNat_natCast, eo, hnac]
      refine ⟨by omega, by omega, br_i (fun h1 => br_i (fun h2 => ⟨by omega, skip (fun q => ?_)⟩) (fun h2 => ?_)) (fun h1 => ⟨by omega, skip (fun q => ?_)⟩)⟩
      · unfold tkB at q
        rw [decide_eq_true h2] at q
        simp at q
      · have hb : tkB J known but n = true := by
          unfold tkB
          rw [h1, decide_eq_false h2]
          rfl
        rw [if_pos hb] at eU
        refine ⟨by omega, hX.mp hm, b1.mp (by omega) hm, fun J3 hp3 => ?_⟩
        have e3 : J3 313 64 = (((tkU J known but n).length : Nat) : Int) := by rw [hp3.1 _ _ (by omega) (by omega) (by decide)]; exact e2
        rw [e3, Int.toNat_natCast]
        have hsp := spOf_mp hX b1 (by omega) hm known
        have hin := spOf_in hX b1 known
        obtain ⟨p1, p2, p3⟩ := hp3
        rw [hsp] at p2 p3
        (repeat' (first | ((with_reducible refine And.intro ?_ ?_); omega)))
        refine ih (n + 1) _ (by omega) (fun b k q1 q2 q3 q4 q5 q6 => ?_) ⟨fun s hs => ?_, fun s o hs ho c d hc hd => ?_⟩ ?_ (fun j hj => ?_)
        · rw [up_ne q6, up_ne (fun e => q2 e.1), p1 b k (fun e => q3 e.1) (fun e => q4 e.1) q5]
          exact f2 b k q1 q2 q3 q4 q5 q6
        · rw [up_na (by decide), up_na (by decide), p1 _ _ (by omega) (by omega) (by decide)]
          exact s2.1 s hs
        · rw [← s2.2 s o hs ho c d hc hd]
          unfold agJ
          have u : ∀ b k, b ≠ 313 → b ≠ 356 → b ≠ 353 → b ≠ 354 → b ≠ 355 → (up (up J3 356 (tkU J known but n).length (n : Int)) 313 64 ((((tkU J known but n).length : Nat) : Int) + 1)) b k = J2 b k := fun b k h1 h2 h3 h4 h5 => by rw [up_na h1, up_na h2, p1 b k (fun e => h3 e.1) (fun e => h4 e.1) h5]
          simp only [u 343 _ (by decide) (by decide) (by decide) (by decide) (by decide), u 342 _ (by decide) (by decide) (by decide) (by decide) (by decide)]
        · rw [up_self, eU, len_app]; push_cast; rfl
        · rw [eU, len_app] at hj
          rw [eU]
          by_cases e : j = (tkU J known but n).length
          · subst e
            rw [getD_app_r, up_na (by decide), up_self]
            refine ⟨rfl, by omega, ?_, hin.2, fun i hi => ⟨?_, (hin.1 i).1⟩⟩
            · rw [up_na (by decide), up_na (by decide)]; exact p2
            · rw [up_na (by decide), up_na (by decide)]; exact p3 i hi
          · rw [getD_app_l (by omega)]
            obtain ⟨a1, a2, a3, a4, a5⟩ := c2 j (by omega)
            generalize (tkU J known but n).getD j 0 = q at a1 a2 a3 a4 a5
            rw [up_na (by decide), up_nk e, p1 _ _ (by omega) (by omega) (by decide)]
            refine ⟨a1, by omega, ?_, a4, fun i hi => ⟨?_, (a5 i hi).2⟩⟩
            · rw [up_na (by decide), up_na (by decide), p1 _ _ (by omega) (by omega) (by decide)]; exact a3
            · rw [up_na (by decide), up_na (by decide), p1 _ _ (by omega) (by omega) (by decide)]; exact (a5 i hi).1
      · unfold tkB at q
        rw [Bool.and_eq_true] at q
        exact h1 q.1
  exact loop M 0 _ (by omega) (fun b k q1 q2 q3 q4 q5 q6 => by rw [up_ne q6]; exact fl b k q1) ⟨fun s hs => by rw [up_na (by decide)]; exact hSt.1 s hs, fun s o hs ho c d hc hd => by
    rw [← hSt.2 s o hs ho c d hc hd]
    unfold agJ
    simp only [up_na (show 343 ≠ 313 by decide), up_na (show 342 ≠ 313 by decide)]⟩ up_self (fun j hj => absurd hj (Nat.not_lt_zero _))
