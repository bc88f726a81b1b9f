/-! the model: all ways -/
set_option maxRecDepth 100000

def MI0 (J : Jm) : Prop := MHeld J ∧ MTab J ∧ MTxt J ∧ MShr J ∧ MNam J
theorem MI0.mp {J J' : Jm} (h : MI0 J) (hm : Mp J J') : MI0 J' := ⟨h.1.mp hm, h.2.1.mp hm, h.2.2.1.mp hm, h.2.2.2.1.mp hm, h.2.2.2.2.mp hm⟩
def PTk (J : Jm) (known but : Int) (J' : Jm) : Prop := tkF J J' ∧ EnvAt J' (envOf J known (tkU J known but (J 313 55).toNat)) (tkU J known but (J 313 55).toNat).length
theorem s_takesR {w : Wd} {S : Sh} {J : Jm} {Q : Out → Sh → Jm → Prop} (hL : Lay S) (known but : Int) (h : MI0 J) (K : ∀ J', PTk J known but J' → Q (.inl none) S J') : V w 4 mX5_takes 0 (ent mX5_takes [vR 313, vI known, vI but]) [] S J Q := s_takes hL known but h.1 h.2.1 h.2.2.1 h.2.2.2.1 h.2.2.2.2 (fun J' f e => K J' ⟨f, e⟩)
theorem gX5_findAll_0 {w : Wd} {S : Sh} {J : Jm} {Q : Out → Sh → Jm → Prop} (hL : Lay S) (known : Int)
    (K : (MI0 J) ∧ (∀ (J1 : Jm), PTk J known 0 J1 → V w 5 mX5_findAll 8 [some (vR 313), some (vI known), some (vI 0)] [] S J1 Q)) :
    V w 5 mX5_findAll 0 (ent mX5_findAll [vR 313, vI known]) [] S J Q := by
  show V w 5 mX5_findAll 0 [some (vR 313), some (vI known), none] [] S J Q
  refine v_aload_n dX5_findAll_0 rfl ?_
  refine v_iload_n dX5_findAll_1 rfl ?_
  refine v_iconst dX5_findAll_2 (in_lit (by decide)) ?_
  refine v_callV (d' := 4) (rest := []) [vI known, vI 0] dX5_findAll_3 vrX5_432_5 (L_313 hL).1 rfl rfl (one_I (one_I one_nil)) (Nat.le_of_ble_eq_true rfl) (Nat.le_of_ble_eq_true rfl) (Nat.le_of_ble_eq_true rfl) ?_
  obtain ⟨o1, K⟩ := K
  refine s_takesR hL known 0 o1 (fun J1 hp => ?_)
  have K := K J1 hp
  show V w 5 mX5_findAll 6 [some (vR 313), some (vI known), none] [] S J1 Q
  refine v_iconst dX5_findAll_6 (in_lit (by decide)) ?_
  refine v_istore_n dX5_findAll_7 (Nat.le_of_ble_eq_true rfl) ?_
  show V w 5 mX5_findAll 8 [some (vR 313), some (vI known), some (vI 0)] [] S J1 Q
  exact K
theorem gX5_findAll_8 {w : Wd} {S : Sh} {J : Jm} {Q : Out → Sh → Jm → Prop} (hL : Lay S) (known : Int) (k : Nat)
    (K : Br (5440 ≤ ((k : Nat) : Int)) (V w 4 mX5_goesThrough 0 (ent mX5_goesThrough [vR 313, vI 0, vI known]) [] S J (CallQ w 5 mX5_findAll 31 [some (vR 313), some (vI known), some (vI ((k : Nat) : Int))] [] Q)) ((((k : Nat) : Int) < 5440) ∧ (-2147483648 ≤ ((k : Nat) : Int) + 1 ∧ ((k : Nat) : Int) + 1 ≤ 2147483647) ∧ V w 5 mX5_findAll 8 [some (vR 313), some (vI known), some (vI ((k + 1 : Nat) : Int))] [] S (up J 361 k 0) Q)) :
    V w 5 mX5_findAll 8 [some (vR 313), some (vI known), some (vI ((k : Nat) : Int))] [] S J Q := by
  refine v_iload_n dX5_findAll_8 rfl ?_
  refine v_sipush dX5_findAll_9 (by decide) (in_lit (by decide)) ?_
  obtain ⟨K1, K2⟩ := K
  refine v_icmp_ge 28 dX5_findAll_12 (by decide) (fun c1 => ?_) (fun c1 => ?_)
  · have K := K1 c1
    refine v_aload_n dX5_findAll_28 rfl ?_
    refine v_iconst dX5_findAll_29 (in_lit (by decide)) ?_
    refine v_iload_n dX5_findAll_30 rfl ?_
    refine v_callV (d' := 4) (rest := []) [vI 0, vI known] dX5_findAll_31 vrX5_435_5 (L_313 hL).1 rfl rfl (one_I (one_I one_nil)) (Nat.le_of_ble_eq_true rfl) (Nat.le_of_ble_eq_true rfl) (Nat.le_of_ble_eq_true rfl) ?_
    exact K
  · have K := K2 c1
    refine v_aload_n dX5_findAll_15 rfl ?_
    refine v_getR dX5_findAll_16 frX5_160_5 rfl (L_313 hL).1 (LR_313_72 hL) (Or.inl rfl) ?_
    refine v_iload_n dX5_findAll_19 rfl ?_
    refine v_iconst dX5_findAll_20 (in_lit (by decide)) ?_
    obtain ⟨o1, K⟩ := K
    refine st_361 dX5_findAll_21 hL (by omega) o1 ?_
    show V w 5 mX5_findAll 22 [some (vR 313), some (vI known), some (vI ((k : Nat) : Int))] [] S (up J 361 k 0) Q
    obtain ⟨o2, K⟩ := K
    refine v_iinc dX5_findAll_22 rfl o2 ?_
    show V w 5 mX5_findAll 25 [some (vR 313), some (vI known), some (vI ((k + 1 : Nat) : Int))] [] S (up J 361 k 0) Q
    refine v_goto 8 dX5_findAll_25 (by decide) ?_
    exact K
theorem gX5_findAll_34 {w : Wd} {S : Sh} {J : Jm} {Q : Out → Sh → Jm → Prop} (hL : Lay S) 
    (K : Q (.inl none) S J) :
    V w 5 mX5_findAll 34 [none, none, none] [] S J Q := by
  exact v_vret dX5_findAll_34 rfl K
theorem gX5_findWay_0 {w : Wd} {S : Sh} {J : Jm} {Q : Out → Sh → Jm → Prop} (hL : Lay S) (known : Int) (k : Int)
    (K : (MI0 J) ∧ (∀ (J1 : Jm), PTk J known 0 J1 → V w 4 mX5_goesThrough 0 (ent mX5_goesThrough [vR 313, vI 2, vI known]) [] S (up J1 313 69 k) (CallQ w 5 mX5_findWay 14 [some (vR 313), some (vI known), some (vI k)] [] Q))) :
    V w 5 mX5_findWay 0 (ent mX5_findWay [vR 313, vI known, vI k]) [] S J Q := by
  show V w 5 mX5_findWay 0 [some (vR 313), some (vI known), some (vI k)] [] S J Q
  refine v_aload_n dX5_findWay_0 rfl ?_
  refine v_iload_n dX5_findWay_1 rfl ?_
  refine v_iconst dX5_findWay_2 (in_lit (by decide)) ?_
  refine v_callV (d' := 4) (rest := []) [vI known, vI 0] dX5_findWay_3 vrX5_432_5 (L_313 hL).1 rfl rfl (one_I (one_I one_nil)) (Nat.le_of_ble_eq_true rfl) (Nat.le_of_ble_eq_true rfl) (Nat.le_of_ble_eq_true rfl) ?_
  obtain ⟨o1, K⟩ := K
  refine s_takesR hL known 0 o1 (fun J1 hp => ?_)
  have K := K J1 hp
  show V w 5 mX5_findWay 6 [some (vR 313), some (vI known), some (vI k)] [] S J1 Q
  refine v_aload_n dX5_findWay_6 rfl ?_
  refine v_iload_n dX5_findWay_7 rfl ?_
  refine v_putI dX5_findWay_8 frX5_417_5 (fun _ _ _ h => by cases h; exact Or.inl rfl) rfl rfl zfit_int (L_313 hL).1 ?_
  show V w 5 mX5_findWay 11 [some (vR 313), some (vI known), some (vI k)] [] S (up J1 313 69 k) Q
  refine v_aload_n dX5_findWay_11 rfl ?_
  refine v_iconst dX5_findWay_12 (in_lit (by decide)) ?_
  refine v_iload_n dX5_findWay_13 rfl ?_
  refine v_callV (d' := 4) (rest := []) [vI 2, vI known] dX5_findWay_14 vrX5_435_5 (L_313 hL).1 rfl rfl (one_I (one_I one_nil)) (Nat.le_of_ble_eq_true rfl) (Nat.le_of_ble_eq_true rfl) (Nat.le_of_ble_eq_true rfl) ?_
  exact K
theorem gX5_findWay_17 {w : Wd} {S : Sh} {J : Jm} {Q : Out → Sh → Jm → Prop} (hL : Lay S) (k : Int)
    (K : Br (J 313 68 ≤ k) (Q (.inl (some (vI 0))) S J) (Q (.inl (some (vI 1))) S J)) :
    V w 5 mX5_findWay 17 [some (vR 313), none, some (vI k)] [] S J Q := by
  refine v_aload_n dX5_findWay_17 rfl ?_
  refine v_getI dX5_findWay_18 frX5_411_5 rfl rfl (L_313 hL).1 ?_
  refine v_iload_n dX5_findWay_21 rfl ?_
  obtain ⟨K1, K2⟩ := K
  refine v_icmp_le 29 dX5_findWay_22 (by decide) (fun c1 => ?_) (fun c1 => ?_)
  · have K := K1 c1
    refine v_iconst dX5_findWay_29 (in_lit (by decide)) ?_
    exact v_iret dX5_findWay_30 rfl (by decide) K
  · have K := K2 c1
    refine v_iconst dX5_findWay_25 (in_lit (by decide)) ?_
    refine v_goto 30 dX5_findWay_26 (by decide) ?_
    exact v_iret dX5_findWay_30 rfl (by decide) K
theorem gX5_forcedOf_0 {w : Wd} {S : Sh} {J : Jm} {Q : Out → Sh → Jm → Prop} (hL : Lay S) (s : Nat)
    (K : V w 0 mX5_forcedOf 4 [some (vR 313), some (vI ((s : Nat) : Int)), some (vI (-1)), some (vI 0)] [] S J Q) :
    V w 0 mX5_forcedOf 0 (ent mX5_forcedOf [vR 313, vI ((s : Nat) : Int)]) [] S J Q := by
  show V w 0 mX5_forcedOf 0 [some (vR 313), some (vI ((s : Nat) : Int)), none, none] [] S J Q
  refine v_iconst dX5_forcedOf_0 (in_lit (by decide)) ?_
  refine v_istore_n dX5_forcedOf_1 (Nat.le_of_ble_eq_true rfl) ?_
  show V w 0 mX5_forcedOf 2 [some (vR 313), some (vI ((s : Nat) : Int)), some (vI (-1)), none] [] S J Q
  refine v_iconst dX5_forcedOf_2 (in_lit (by decide)) ?_
  refine v_istore_n dX5_forcedOf_3 (Nat.le_of_ble_eq_true rfl) ?_
  show V w 0 mX5_forcedOf 4 [some (vR 313), some (vI ((s : Nat) : Int)), some (vI (-1)), some (vI 0)] [] S J Q
  exact K
theorem gX5_forcedOf_4 {w : Wd} {S : Sh} {J : Jm} {Q : Out → Sh → Jm → Prop} (hL : Lay S) (s : Nat) (f : Int) (c : Nat)
    (K : Br (135 ≤ ((c : Nat) : Int)) (Q (.inl (some (vI f))) S J) (Br (J 313 68 ≤ 0) (Q (.inl (some (vI f))) S J) ((-2147483648 ≤ 136 * ((s : Nat) : Int) ∧ 136 * ((s : Nat) : Int) ≤ 2147483647) ∧ (-2147483648 ≤ ((136 * s : Nat) : Int) + ((c : Nat) : Int) ∧ ((136 * s : Nat) : Int) + ((c : Nat) : Int) ≤ 2147483647) ∧ ((((136 * s) + c : Nat) : Int) < 5440) ∧ Br (J 361 ((136 * s) + c) = J 313 68) ((-2147483648 ≤ ((c : Nat) : Int) + 1 ∧ ((c : Nat) : Int) + 1 ≤ 2147483647) ∧ V w 0 mX5_forcedOf 4 [some (vR 313), some (vI ((s : Nat) : Int)), some (vI ((c : Nat) : Int)), some (vI ((c + 1 : Nat) : Int))] [] S J Q) ((-2147483648 ≤ ((c : Nat) : Int) + 1 ∧ ((c : Nat) : Int) + 1 ≤ 2147483647) ∧ V w 0 mX5_forcedOf 4 [some (vR 313), some (vI ((s : Nat) : Int)), some (vI f), some (vI ((c + 1 : Nat) : Int))] [] S J Q)))) :
    V w 0 mX5_forcedOf 4 [some (vR 313), some (vI ((s : Nat) : Int)), some (vI f), some (vI ((c : Nat) : Int))] [] S J Q := by
  refine v_iload_n dX5_forcedOf_4 rfl ?_
  refine v_sipush dX5_forcedOf_5 (by decide) (in_lit (by decide)) ?_
  obtain ⟨K1, K2⟩ := K
  refine v_icmp_ge 45 dX5_forcedOf_8 (by decide) (fun c1 => ?_) (fun c1 => ?_)
  · have K := K1 c1
    refine v_iload_n dX5_forcedOf_45 rfl ?_
    exact v_iret dX5_forcedOf_46 rfl rfl K
  · have K := K2 c1
    refine v_aload_n dX5_forcedOf_11 rfl ?_
    refine v_getI dX5_forcedOf_12 frX5_411_5 rfl rfl (L_313 hL).1 ?_
    obtain ⟨K1, K2⟩ := K
    refine v_if_le 45 dX5_forcedOf_15 (by decide) (fun c2 => ?_) (fun c2 => ?_)
    · have K := K1 c2
      refine v_iload_n dX5_forcedOf_45 rfl ?_
      exact v_iret dX5_forcedOf_46 rfl rfl K
    · have K := K2 c2
      refine v_aload_n dX5_forcedOf_18 rfl ?_
      refine v_getR dX5_forcedOf_19 frX5_160_5 rfl (L_313 hL).1 (LR_313_72 hL) (Or.inl rfl) ?_
      refine v_sipush dX5_forcedOf_22 (by decide) (in_lit (by decide)) ?_
      refine v_iload_n dX5_forcedOf_25 rfl ?_
      obtain ⟨o1, K⟩ := K
      refine v_imul dX5_forcedOf_26 o1 ?_
      show V w 0 mX5_forcedOf 27 [some (vR 313), some (vI ((s : Nat) : Int)), some (vI f), some (vI ((c : Nat) : Int))] [vI ((136 * s : Nat) : Int), vR 361] S J Q
      refine v_iload_n dX5_forcedOf_27 rfl ?_
      obtain ⟨o2, K⟩ := K
      refine v_iadd dX5_forcedOf_28 o2 ?_
      show V w 0 mX5_forcedOf 29 [some (vR 313), some (vI ((s : Nat) : Int)), some (vI f), some (vI ((c : Nat) : Int))] [vI (((136 * s) + c : Nat) : Int), vR 361] S J Q
      obtain ⟨o3, K⟩ := K
      refine ld_361 dX5_forcedOf_29 hL (by omega) o3 ?_
      show V w 0 mX5_forcedOf 30 [some (vR 313), some (vI ((s : Nat) : Int)), some (vI f), some (vI ((c : Nat) : Int))] [vI (J 361 ((136 * s) + c))] S J Q
      refine v_aload_n dX5_forcedOf_30 rfl ?_
      refine v_getI dX5_forcedOf_31 frX5_411_5 rfl rfl (L_313 hL).1 ?_
      obtain ⟨K1, K2⟩ := K
      refine v_icmp_ne 39 dX5_forcedOf_34 (by decide) (fun c3 => ?_) (fun c3 => ?_)
      · have K := K2 c3
        obtain ⟨o4, K⟩ := K
        refine v_iinc dX5_forcedOf_39 rfl o4 ?_
        show V w 0 mX5_forcedOf 42 [some (vR 313), some (vI ((s : Nat) : Int)), some (vI f), some (vI ((c + 1 : Nat) : Int))] [] S J Q
        refine v_goto 4 dX5_forcedOf_42 (by decide) ?_
        exact K
      · have K := K1 c3
        refine v_iload_n dX5_forcedOf_37 rfl ?_
        refine v_istore_n dX5_forcedOf_38 (Nat.le_of_ble_eq_true rfl) ?_
        show V w 0 mX5_forcedOf 39 [some (vR 313), some (vI ((s : Nat) : Int)), some (vI ((c : Nat) : Int)), some (vI ((c : Nat) : Int))] [] S J Q
        obtain ⟨o5, K⟩ := K
        refine v_iinc dX5_forcedOf_39 rfl o5 ?_
        show V w 0 mX5_forcedOf 42 [some (vR 313), some (vI ((s : Nat) : Int)), some (vI ((c : Nat) : Int)), some (vI ((c + 1 : Nat) : Int))] [] S J Q
        refine v_goto 4 dX5_forcedOf_42 (by decide) ?_
        exact K

/-- the names that are taken on a day, but some; all ways then -/
def tkL (J : Jm) (known but : Int) : List Nat := tkU J known but (J 313 55).toNat
noncomputable def wyL (J : Jm) (known but : Int) : List Way := wy0 (envOf J known (tkL J known but)) (tkL J known but).length
theorem tkL_lt {J : Jm} {known but : Int} (hN : MNam J) {j : Nat} (hj : j < (tkL J known but).length) : (((tkL J known but).getD j 0 : Nat) : Int) < J 313 55 := by
  have hm : (tkL J known but).getD j 0 ∈ tkL J known but := by
    rw [List.getD_eq_getElem?_getD, List.getElem?_eq_getElem hj]
    exact List.getElem_mem hj
  have := ((tkU_mem _).mp hm).1
  have := hN.1
  omega
theorem cl_in {J : Jm} {known but : Int} (h : MI0 J) : ∀ j, j < (tkL J known but).length → inC ((envOf J known (tkL J known but)).cl j) := fun j hj => (spOf_in h.2.2.1 (h.2.2.2.2.2 _ (tkL_lt h.2.2.2.2 hj)).1 known).1
/-- all has been found -/
def PAll (J : Jm) (known : Int) (J' : Jm) : Prop := Kp J J' ∧ (∀ s : Nat, s < 40 → J' 332 s = ((labOf (EH J known) s : Nat) : Int)) ∧ J' 313 68 = ((wyL J known 0).length : Nat) ∧ ∀ s c, s < 40 → c < 136 → J' 361 (136 * s + c) = ((tlC (wyL J known 0) s c : Nat) : Int)
theorem s_findAll {w : Wd} {S : Sh} {J : Jm} {Q : Out → Sh → Jm → Prop} (hL : Lay S) (known : Int) (h : MI0 J) (K : ∀ J', PAll J known J' → Q (.inl none) S J') : V w 5 mX5_findAll 0 (ent mX5_findAll [vR 313, vI known]) [] S J Q := by
  refine gX5_findAll_0 hL known ⟨h, fun J1 hp => ?_⟩
  show V w 5 mX5_findAll 8 [some (vR 313), some (vI known), some (vI ((0 : Nat) : Int))] [] S J1 Q
  refine up_loop (P := fun k J2 => (∀ b j, b ≠ 361 → J2 b j = J1 b j) ∧ ∀ j, j < k → J2 361 j = 0) 5440 (fun k J2 => V w 5 mX5_findAll 8 [some (vR 313), some (vI known), some (vI (k : Int))] [] S J2 Q) ?_ ?_ 0 J1 (by omega) ⟨fun _ _ _ => rfl, fun j hj => absurd hj (Nat.not_lt_zero _)⟩
  · intro k J2 hk ⟨f2, t2⟩ ih
    refine gX5_findAll_8 (J := J2) hL known k (br_n (by omega) ?_)
    (repeat' (first | ((with_reducible refine And.intro ?_ ?_); omega)))
    refine ih _ ⟨fun b j q => by rw [up_na q]; exact f2 b j q, fun j hj => ?_⟩
    by_cases e : j = k
    · rw [e, up_self]
    · rw [up_nk e]; exact t2 j (by omega)
  · intro J2 ⟨f2, t2⟩
    refine gX5_findAll_8 (J := J2) hL known 5440 (br_y (by omega) ?_)
    have g2 : gtF J1 J2 := fun b j q => f2 b j (fun e => q (by unfold gtS; omega))
    have hE := hp.2.gt g2
    refine s_goes0 hL known _ _ hE (cl_in h) t2 (fun J3 f3 e3 t3 => ?_)
    refine v_forget (fg_none (fg_none (fg_none fg_nil))) (gX5_findAll_34 hL (K J3 ⟨(hp.1.kp.trans g2.kp).trans f3.kp, fun s hs => ?_, e3, t3⟩))
    exact ((hE.gt f3).2.2.2.1 s hs).1
theorem s_findWay {w : Wd} {S : Sh} {J : Jm} {Q : Out → Sh → Jm → Prop} (hL : Lay S) (known : Int) (k : Nat) (h : MI0 J) (hk : (k : Int) ≤ 2147483647) (K0 : (wyL J known 0)[k]? = none → ∀ J', Kp J J' → Q (.inl (some (vI 0))) S J') (K1 : ∀ x, (wyL J known 0)[k]? = some x → ∀ J', Kp J J' → EnvAt J' (envOf J known (tkL J known 0)) (tkL J known 0).length → FoundAt J' (envOf J known (tkL J known 0)) (tkL J known 0).length x → Q (.inl (some (vI 1))) S J') : V w 5 mX5_findWay 0 (ent mX5_findWay [vR 313, vI known, vI (k : Int)]) [] S J Q := by
  refine gX5_findWay_0 hL known (k : Int) ⟨h, fun J1 hp => ?_⟩
  have g2 : ∀ b j, b ≠ 313 ∨ j ≠ 69 → (up J1 313 69 (k : Int)) b j = J1 b j := fun b j q => up_ne (fun e => by omega)
  have hE : EnvAt (up J1 313 69 (k : Int)) (envOf J known (tkL J known 0)) (tkL J known 0).length := by
    obtain ⟨h1, h2, h3, h4, h5⟩ := hp.2
    refine ⟨by rw [g2 _ _ (by omega)]; exact h1, h2, fun j hj => ?_, fun s hs => ?_, fun s o hs ho c d hc hd => ?_⟩
    · obtain ⟨a1, a2, a3, a4, a5⟩ := h3 j hj
      unfold CsAt RwAt at *
      simp only [up_na (show 356 ≠ 313 by decide), up_na (show 350 ≠ 313 by decide), up_na (show 354 ≠ 313 by decide), up_na (show 353 ≠ 313 by decide), up_na (show 316 ≠ 313 by decide), up_na (show 317 ≠ 313 by decide), up_na (show 318 ≠ 313 by decide)]
      exact ⟨a1, a2, a3, a4, a5⟩
    · rw [up_na (by decide)]; exact h4 s hs
    · refine Eq.trans ?_ (h5 s o hs ho c d hc hd)
      unfold agJ
      simp only [up_na (show 343 ≠ 313 by decide), up_na (show 342 ≠ 313 by decide)]
  have kp : Kp J (up J1 313 69 (k : Int)) := hp.1.kp.up rfl
  refine s_goes2 hL known _ _ k hE up_self (fun q J2 f2 h2 => ?_) (fun x q J2 f2 h2 h3 => ?_)
  · exact v_forget (fg_some (fg_none (fg_some fg_nil))) (gX5_findWay_17 hL (k : Int) (br_y (by omega) (K0 q J2 (kp.trans f2.kp))))
  · exact v_forget (fg_some (fg_none (fg_some fg_nil))) (gX5_findWay_17 hL (k : Int) (br_n (by omega) (K1 x q J2 (kp.trans f2.kp) (hE.gt f2) h3)))
theorem gX5_ways_0 {w : Wd} {S : Sh} {J : Jm} {Q : Out → Sh → Jm → Prop} (hL : Lay S) (known : Int)
    (K : Br (0 ≤ known ∧ known ≤ (J 313 1)) ((MI0 (up J 313 0 0)) ∧ (∀ (J1 : Jm), PAll (up J 313 0 0) known J1 → Q (.inl (some (vI (J1 313 68)))) S J1)) (Q (.inl (some (vI (-1)))) S (up J 313 0 0))) :
    V w 6 mX5_ways 0 (ent mX5_ways [vR 313, vI known]) [] S J Q := by
  show V w 6 mX5_ways 0 [some (vR 313), some (vI known)] [] S J Q
  refine v_aload_n dX5_ways_0 rfl ?_
  refine v_iconst dX5_ways_1 (in_lit (by decide)) ?_
  refine v_putI dX5_ways_2 frX5_1_5 (fun _ _ _ h => by cases h; exact Or.inl rfl) rfl rfl zfit_int (L_313 hL).1 ?_
  show V w 6 mX5_ways 5 [some (vR 313), some (vI known)] [] S (up J 313 0 0) Q
  refine v_aload_n dX5_ways_5 rfl ?_
  refine v_iload_n dX5_ways_6 rfl ?_
  refine v_callV (d' := 0) (rest := []) [vI known] dX5_ways_7 vrX5_298_5 (L_313 hL).1 rfl rfl (one_I one_nil) (Nat.le_of_ble_eq_true rfl) (Nat.le_of_ble_eq_true rfl) (Nat.le_of_ble_eq_true rfl) ?_
  obtain ⟨K1, K2⟩ := K
  refine sX5_isKnown hL known  (fun c1 => ?_) (fun c1 => ?_)
  · have K := K1 c1
    show V w 6 mX5_ways 10 [some (vR 313), some (vI known)] [vI 1] S (up J 313 0 0) Q
    refine v_if_ne 15 dX5_ways_10 (by decide) (fun _ => ?_) (fun cQ => absurd cQ (by decide))
    refine v_aload_n dX5_ways_15 rfl ?_
    refine v_iload_n dX5_ways_16 rfl ?_
    refine v_callV (d' := 5) (rest := []) [vI known] dX5_ways_17 vrX5_438_5 (L_313 hL).1 rfl rfl (one_I one_nil) (Nat.le_of_ble_eq_true rfl) (Nat.le_of_ble_eq_true rfl) (Nat.le_of_ble_eq_true rfl) ?_
    obtain ⟨o1, K⟩ := K
    refine s_findAll hL known o1 (fun J1 hp => ?_)
    have K := K J1 hp
    show V w 6 mX5_ways 20 [some (vR 313), some (vI known)] [] S J1 Q
    refine v_aload_n dX5_ways_20 rfl ?_
    refine v_getI dX5_ways_21 frX5_411_5 rfl rfl (L_313 hL).1 ?_
    exact v_iret dX5_ways_24 rfl rfl K
  · have K := K2 c1
    show V w 6 mX5_ways 10 [some (vR 313), some (vI known)] [vI 0] S (up J 313 0 0) Q
    refine v_if_ne 15 dX5_ways_10 (by decide) (fun cQ => absurd cQ (by decide)) (fun _ => ?_)
    refine v_iconst dX5_ways_13 (in_lit (by decide)) ?_
    exact v_iret dX5_ways_14 rfl rfl K
theorem gX5_way_0 {w : Wd} {S : Sh} {J : Jm} {Q : Out → Sh → Jm → Prop} (hL : Lay S) (known : Int) (k : Int) (n : Int)
    (K : Br (0 ≤ known ∧ known ≤ (J 313 1)) (Br (k < 0) (Q (.inl (some (vI (-1)))) S (up J 313 0 0)) ((-2147483648 ≤ (J 313 55) - 1 ∧ (J 313 55) - 1 ≤ 2147483647) ∧ Br (0 ≤ n ∧ n ≤ ((J 313 55) - 1)) (V w 5 mX5_findWay 0 (ent mX5_findWay [vR 313, vI known, vI k]) [] S (up J 313 0 0) (CallQ w 6 mX5_way 34 [some (vR 313), some (vI known), some (vI k), some (vI n), none] [] Q)) (Q (.inl (some (vI (-1)))) S (up J 313 0 0)))) (Q (.inl (some (vI (-1)))) S (up J 313 0 0))) :
    V w 6 mX5_way 0 (ent mX5_way [vR 313, vI known, vI k, vI n]) [] S J Q := by
  show V w 6 mX5_way 0 [some (vR 313), some (vI known), some (vI k), some (vI n), none] [] S J Q
  refine v_aload_n dX5_way_0 rfl ?_
  refine v_iconst dX5_way_1 (in_lit (by decide)) ?_
  refine v_putI dX5_way_2 frX5_1_5 (fun _ _ _ h => by cases h; exact Or.inl rfl) rfl rfl zfit_int (L_313 hL).1 ?_
  show V w 6 mX5_way 5 [some (vR 313), some (vI known), some (vI k), some (vI n), none] [] S (up J 313 0 0) Q
  refine v_aload_n dX5_way_5 rfl ?_
  refine v_iload_n dX5_way_6 rfl ?_
  refine v_callV (d' := 0) (rest := []) [vI known] dX5_way_7 vrX5_298_5 (L_313 hL).1 rfl rfl (one_I one_nil) (Nat.le_of_ble_eq_true rfl) (Nat.le_of_ble_eq_true rfl) (Nat.le_of_ble_eq_true rfl) ?_
  obtain ⟨K1, K2⟩ := K
  refine sX5_isKnown hL known  (fun c1 => ?_) (fun c1 => ?_)
  · have K := K1 c1
    show V w 6 mX5_way 10 [some (vR 313), some (vI known), some (vI k), some (vI n), none] [vI 1] S (up J 313 0 0) Q
    refine v_if_eq 40 dX5_way_10 (by decide) (fun cQ => absurd cQ (by decide)) (fun _ => ?_)
    refine v_iload_n dX5_way_13 rfl ?_
    obtain ⟨K1, K2⟩ := K
    refine v_if_lt 40 dX5_way_14 (by decide) (fun c2 => ?_) (fun c2 => ?_)
    · have K := K1 c2
      refine v_iconst dX5_way_40 (in_lit (by decide)) ?_
      exact v_iret dX5_way_41 rfl rfl K
    · have K := K2 c2
      refine v_iload_n dX5_way_17 rfl ?_
      refine v_iconst dX5_way_18 (in_lit (by decide)) ?_
      refine v_aload_n dX5_way_19 rfl ?_
      refine v_getI dX5_way_20 frX5_383_5 rfl rfl (L_313 hL).1 ?_
      show V w 6 mX5_way 23 [some (vR 313), some (vI known), some (vI k), some (vI n), none] [vI (J 313 55), vI 0, vI n] S (up J 313 0 0) Q
      refine v_iconst dX5_way_23 (in_lit (by decide)) ?_
      obtain ⟨o1, K⟩ := K
      refine v_isub dX5_way_24 o1 ?_
      refine v_callS (d' := 0) (rest := []) [vI n, vI 0, vI ((J 313 55) - 1)] dX5_way_25 srX5_169 rfl (one_I (one_I (one_I one_nil))) (Nat.le_of_ble_eq_true rfl) (Nat.le_of_ble_eq_true rfl) (Nat.le_of_ble_eq_true rfl) ?_
      obtain ⟨K1, K2⟩ := K
      refine sX5_within hL n 0 ((J 313 55) - 1)  (fun c3 => ?_) (fun c3 => ?_)
      · have K := K1 c3
        show V w 6 mX5_way 28 [some (vR 313), some (vI known), some (vI k), some (vI n), none] [vI 1] S (up J 313 0 0) Q
        refine v_if_eq 40 dX5_way_28 (by decide) (fun cQ => absurd cQ (by decide)) (fun _ => ?_)
        refine v_aload_n dX5_way_31 rfl ?_
        refine v_iload_n dX5_way_32 rfl ?_
        refine v_iload_n dX5_way_33 rfl ?_
        refine v_callV (d' := 5) (rest := []) [vI known, vI k] dX5_way_34 vrX5_441_5 (L_313 hL).1 rfl rfl (one_I (one_I one_nil)) (Nat.le_of_ble_eq_true rfl) (Nat.le_of_ble_eq_true rfl) (Nat.le_of_ble_eq_true rfl) ?_
        exact K
      · have K := K2 c3
        show V w 6 mX5_way 28 [some (vR 313), some (vI known), some (vI k), some (vI n), none] [vI 0] S (up J 313 0 0) Q
        refine v_if_eq 40 dX5_way_28 (by decide) (fun _ => ?_) (fun cQ => absurd cQ (by decide))
        refine v_iconst dX5_way_40 (in_lit (by decide)) ?_
        exact v_iret dX5_way_41 rfl rfl K
  · have K := K2 c1
    show V w 6 mX5_way 10 [some (vR 313), some (vI known), some (vI k), some (vI n), none] [vI 0] S (up J 313 0 0) Q
    refine v_if_eq 40 dX5_way_10 (by decide) (fun _ => ?_) (fun cQ => absurd cQ (by decide))
    refine v_iconst dX5_way_40 (in_lit (by decide)) ?_
    exact v_iret dX5_way_41 rfl rfl K
theorem gX5_way_45 {w : Wd} {S : Sh} {J : Jm} {Q : Out → Sh → Jm → Prop} (hL : Lay S) (n : Int) (i : Nat)
    (K : Br (J 313 64 ≤ ((i : Nat) : Int)) (Q (.inl (some (vI (-1)))) S J) ((((i : Nat) : Int) < 7) ∧ Br (J 356 i = n) (Q (.inl (some (vI (J 359 i)))) S J) ((-2147483648 ≤ ((i : Nat) : Int) + 1 ∧ ((i : Nat) : Int) + 1 ≤ 2147483647) ∧ V w 6 mX5_way 45 [some (vR 313), none, none, some (vI n), some (vI ((i + 1 : Nat) : Int))] [] S J Q))) :
    V w 6 mX5_way 45 [some (vR 313), none, none, some (vI n), some (vI ((i : Nat) : Int))] [] S J Q := by
  refine v_iload dX5_way_45 rfl ?_
  refine v_aload_n dX5_way_47 rfl ?_
  refine v_getI dX5_way_48 frX5_414_5 rfl rfl (L_313 hL).1 ?_
  obtain ⟨K1, K2⟩ := K
  refine v_icmp_ge 79 dX5_way_51 (by decide) (fun c1 => ?_) (fun c1 => ?_)
  · have K := K1 c1
    refine v_iconst dX5_way_79 (in_lit (by decide)) ?_
    exact v_iret dX5_way_80 rfl rfl K
  · have K := K2 c1
    refine v_aload_n dX5_way_54 rfl ?_
    refine v_getR dX5_way_55 frX5_145_5 rfl (L_313 hL).1 (LR_313_65 hL) (Or.inl rfl) ?_
    refine v_iload dX5_way_58 rfl ?_
    obtain ⟨o1, K⟩ := K
    refine ld_356 dX5_way_60 hL (by omega) o1 ?_
    show V w 6 mX5_way 61 [some (vR 313), none, none, some (vI n), some (vI ((i : Nat) : Int))] [vI (J 356 i)] S J Q
    refine v_iload_n dX5_way_61 rfl ?_
    obtain ⟨K1, K2⟩ := K
    refine v_icmp_ne 73 dX5_way_62 (by decide) (fun c2 => ?_) (fun c2 => ?_)
    · have K := K2 c2
      obtain ⟨o2, K⟩ := K
      refine v_iinc dX5_way_73 rfl o2 ?_
      show V w 6 mX5_way 76 [some (vR 313), none, none, some (vI n), some (vI ((i + 1 : Nat) : Int))] [] S J Q
      refine v_goto 45 dX5_way_76 (by decide) ?_
      exact K
    · have K := K1 c2
      refine v_aload_n dX5_way_65 rfl ?_
      refine v_getR dX5_way_66 frX5_154_5 rfl (L_313 hL).1 (LR_313_70 hL) (Or.inl rfl) ?_
      refine v_iload dX5_way_69 rfl ?_
      refine ld_359 dX5_way_71 hL (by omega) o1 ?_
      show V w 6 mX5_way 72 [some (vR 313), none, none, some (vI n), some (vI ((i : Nat) : Int))] [vI (J 359 i)] S J Q
      exact v_iret dX5_way_72 rfl rfl K
theorem gX5_way_37 {w : Wd} {S : Sh} {J : Jm} {Q : Out → Sh → Jm → Prop} (hL : Lay S) (n : Int) (r : Int)
    (K : Br (r = 0) (Q (.inl (some (vI (-1)))) S J) (V w 6 mX5_way 45 [some (vR 313), none, none, some (vI n), some (vI 0)] [] S J Q)) :
    V w 6 mX5_way 37 [some (vR 313), none, none, some (vI n), none] [vI r] S J Q := by
  obtain ⟨K1, K2⟩ := K
  refine v_if_ne 42 dX5_way_37 (by decide) (fun c1 => ?_) (fun c1 => ?_)
  · have K := K2 c1
    refine v_iconst dX5_way_42 (in_lit (by decide)) ?_
    refine v_istore dX5_way_43 (Nat.le_of_ble_eq_true rfl) ?_
    show V w 6 mX5_way 45 [some (vR 313), none, none, some (vI n), some (vI 0)] [] S J Q
    exact K
  · have K := K1 c1
    refine v_iconst dX5_way_40 (in_lit (by decide)) ?_
    exact v_iret dX5_way_41 rfl rfl K
theorem gX5_given_0 {w : Wd} {S : Sh} {J : Jm} {Q : Out → Sh → Jm → Prop} (hL : Lay S) (known : Int) (k : Int) (s : Int)
    (K : Br (0 ≤ known ∧ known ≤ (J 313 1)) (Br (k < 0) (Q (.inl (some (vI (-1)))) S (up J 313 0 0)) (Br (0 ≤ s ∧ s < 40) (V w 5 mX5_findWay 0 (ent mX5_findWay [vR 313, vI known, vI k]) [] S (up J 313 0 0) (CallQ w 6 mX5_given 27 [some (vR 313), some (vI known), some (vI k), some (vI s)] [] Q)) (Q (.inl (some (vI (-1)))) S (up J 313 0 0)))) (Q (.inl (some (vI (-1)))) S (up J 313 0 0))) :
    V w 6 mX5_given 0 (ent mX5_given [vR 313, vI known, vI k, vI s]) [] S J Q := by
  show V w 6 mX5_given 0 [some (vR 313), some (vI known), some (vI k), some (vI s)] [] S J Q
  refine v_aload_n dX5_given_0 rfl ?_
  refine v_iconst dX5_given_1 (in_lit (by decide)) ?_
  refine v_putI dX5_given_2 frX5_1_5 (fun _ _ _ h => by cases h; exact Or.inl rfl) rfl rfl zfit_int (L_313 hL).1 ?_
  show V w 6 mX5_given 5 [some (vR 313), some (vI known), some (vI k), some (vI s)] [] S (up J 313 0 0) Q
  refine v_aload_n dX5_given_5 rfl ?_
  refine v_iload_n dX5_given_6 rfl ?_
  refine v_callV (d' := 0) (rest := []) [vI known] dX5_given_7 vrX5_298_5 (L_313 hL).1 rfl rfl (one_I one_nil) (Nat.le_of_ble_eq_true rfl) (Nat.le_of_ble_eq_true rfl) (Nat.le_of_ble_eq_true rfl) ?_
  obtain ⟨K1, K2⟩ := K
  refine sX5_isKnown hL known  (fun c1 => ?_) (fun c1 => ?_)
  · have K := K1 c1
    show V w 6 mX5_given 10 [some (vR 313), some (vI known), some (vI k), some (vI s)] [vI 1] S (up J 313 0 0) Q
    refine v_if_eq 47 dX5_given_10 (by decide) (fun cQ => absurd cQ (by decide)) (fun _ => ?_)
    refine v_iload_n dX5_given_13 rfl ?_
    obtain ⟨K1, K2⟩ := K
    refine v_if_lt 47 dX5_given_14 (by decide) (fun c2 => ?_) (fun c2 => ?_)
    · have K := K1 c2
      refine v_iconst dX5_given_47 (in_lit (by decide)) ?_
      exact v_iret dX5_given_48 rfl rfl K
    · have K := K2 c2
      refine v_iload_n dX5_given_17 rfl ?_
      refine v_callS (d' := 0) (rest := []) [vI s] dX5_given_18 srX5_288 rfl (one_I one_nil) (Nat.le_of_ble_eq_true rfl) (Nat.le_of_ble_eq_true rfl) (Nat.le_of_ble_eq_true rfl) ?_
      obtain ⟨K1, K2⟩ := K
      refine sX5_isSignNumber hL s  (fun c3 => ?_) (fun c3 => ?_)
      · have K := K1 c3
        show V w 6 mX5_given 21 [some (vR 313), some (vI known), some (vI k), some (vI s)] [vI 1] S (up J 313 0 0) Q
        refine v_if_eq 47 dX5_given_21 (by decide) (fun cQ => absurd cQ (by decide)) (fun _ => ?_)
        refine v_aload_n dX5_given_24 rfl ?_
        refine v_iload_n dX5_given_25 rfl ?_
        refine v_iload_n dX5_given_26 rfl ?_
        refine v_callV (d' := 5) (rest := []) [vI known, vI k] dX5_given_27 vrX5_441_5 (L_313 hL).1 rfl rfl (one_I (one_I one_nil)) (Nat.le_of_ble_eq_true rfl) (Nat.le_of_ble_eq_true rfl) (Nat.le_of_ble_eq_true rfl) ?_
        exact K
      · have K := K2 c3
        show V w 6 mX5_given 21 [some (vR 313), some (vI known), some (vI k), some (vI s)] [vI 0] S (up J 313 0 0) Q
        refine v_if_eq 47 dX5_given_21 (by decide) (fun _ => ?_) (fun cQ => absurd cQ (by decide))
        refine v_iconst dX5_given_47 (in_lit (by decide)) ?_
        exact v_iret dX5_given_48 rfl rfl K
  · have K := K2 c1
    show V w 6 mX5_given 10 [some (vR 313), some (vI known), some (vI k), some (vI s)] [vI 0] S (up J 313 0 0) Q
    refine v_if_eq 47 dX5_given_10 (by decide) (fun _ => ?_) (fun cQ => absurd cQ (by decide))
    refine v_iconst dX5_given_47 (in_lit (by decide)) ?_
    exact v_iret dX5_given_48 rfl rfl K
theorem gX5_given_30 {w : Wd} {S : Sh} {J : Jm} {Q : Out → Sh → Jm → Prop} (hL : Lay S) (s : Int) (r : Int)
    (K : Br (r = 0) (Q (.inl (some (vI (-1)))) S J) ((0 ≤ s) ∧ (s < 40) ∧ (0 ≤ J 332 s.toNat) ∧ (J 332 s.toNat < 40) ∧ Q (.inl (some (vI (J 360 (J 332 s.toNat).toNat)))) S J)) :
    V w 6 mX5_given 30 [some (vR 313), none, none, some (vI s)] [vI r] S J Q := by
  obtain ⟨K1, K2⟩ := K
  refine v_if_eq 47 dX5_given_30 (by decide) (fun c1 => ?_) (fun c1 => ?_)
  · have K := K1 c1
    refine v_iconst dX5_given_47 (in_lit (by decide)) ?_
    exact v_iret dX5_given_48 rfl rfl K
  · have K := K2 c1
    refine v_aload_n dX5_given_33 rfl ?_
    refine v_getR dX5_given_34 frX5_157_5 rfl (L_313 hL).1 (LR_313_71 hL) (Or.inl rfl) ?_
    refine v_aload_n dX5_given_37 rfl ?_
    refine v_getR dX5_given_38 frX5_72_5 rfl (L_313 hL).1 (LR_313_31 hL) (Or.inl rfl) ?_
    refine v_iload_n dX5_given_41 rfl ?_
    obtain ⟨o1, K⟩ := K
    obtain ⟨o2, K⟩ := K
    refine ld_332 dX5_given_42 hL o1 o2 ?_
    obtain ⟨o3, K⟩ := K
    obtain ⟨o4, K⟩ := K
    refine ld_360 dX5_given_43 hL o3 o4 ?_
    refine v_goto 48 dX5_given_44 (by decide) ?_
    exact v_iret dX5_given_48 rfl rfl K
