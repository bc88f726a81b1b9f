/-! the model: words -/
set_option maxRecDepth 100000
theorem gX5_isWord_0 {w : Wd} {S : Sh} {J : Jm} {Q : Out → Sh → Jm → Prop} (hL : Lay S) (i : Nat) (bs : List Int) (hi : StrB i bs)
    (K : Br (J 313 19 = 3) ((-2147483648 ≤ (J 313 17) - (J 313 18) ∧ (J 313 17) - (J 313 18) ≤ 2147483647) ∧ Br ((J 313 17) - (J 313 18) = ((bs.length : Nat) : Int)) (V w 4 mX5_isWord 28 [some (vR 313), some (vR (2 * i)), some (vI 0)] [] S J Q) (Q (.inl (some (vI 0))) S J)) (Q (.inl (some (vI 0))) S J)) :
    V w 4 mX5_isWord 0 (ent mX5_isWord [vR 313, vR (2 * i)]) [] S J Q := by
  show V w 4 mX5_isWord 0 [some (vR 313), some (vR (2 * i)), none] [] S J Q
  refine v_aload_n dX5_isWord_0 rfl ?_
  refine v_getI dX5_isWord_1 frX5_189_5 rfl rfl (L_313 hL).1 ?_
  refine v_iconst dX5_isWord_4 (in_lit (by decide)) ?_
  obtain ⟨K1, K2⟩ := K
  refine v_icmp_ne 24 dX5_isWord_5 (by decide) (fun c1 => ?_) (fun c1 => ?_)
  · have K := K2 c1
    refine v_iconst dX5_isWord_24 (in_lit (by decide)) ?_
    exact v_iret dX5_isWord_25 rfl (by decide) K
  · have K := K1 c1
    refine v_aload_n dX5_isWord_8 rfl ?_
    refine v_getI dX5_isWord_9 frX5_183_5 rfl rfl (L_313 hL).1 ?_
    refine v_aload_n dX5_isWord_12 rfl ?_
    refine v_getI dX5_isWord_13 frX5_186_5 rfl rfl (L_313 hL).1 ?_
    obtain ⟨o1, K⟩ := K
    refine v_isub dX5_isWord_16 o1 ?_
    refine v_aload_n dX5_isWord_17 rfl ?_
    refine v_callVS (d' := 1) (rest := [vI ((J 313 17) - (J 313 18))]) [] dX5_isWord_18 vsX5_206 hi rfl one_nil (Nat.le_of_ble_eq_true rfl) (Nat.le_of_ble_eq_true rfl) (Nat.le_of_ble_eq_true rfl) ?_
    refine s_strLen hL i bs hi  ?_
    show V w 4 mX5_isWord 21 [some (vR 313), some (vR (2 * i)), none] [vI ((bs.length : Nat) : Int), vI ((J 313 17) - (J 313 18))] S J Q
    obtain ⟨K1, K2⟩ := K
    refine v_icmp_eq 26 dX5_isWord_21 (by decide) (fun c2 => ?_) (fun c2 => ?_)
    · have K := K1 c2
      refine v_iconst dX5_isWord_26 (in_lit (by decide)) ?_
      refine v_istore_n dX5_isWord_27 (Nat.le_of_ble_eq_true rfl) ?_
      show V w 4 mX5_isWord 28 [some (vR 313), some (vR (2 * i)), some (vI 0)] [] S J Q
      exact K
    · have K := K2 c2
      refine v_iconst dX5_isWord_24 (in_lit (by decide)) ?_
      exact v_iret dX5_isWord_25 rfl (by decide) K
theorem gX5_isWord_28 {w : Wd} {S : Sh} {J : Jm} {Q : Out → Sh → Jm → Prop} (hL : Lay S) (i : Nat) (bs : List Int) (hi : StrB i bs) (k : Nat)
    (K : Br (((bs.length : Nat) : Int) ≤ ((k : Nat) : Int)) (Q (.inl (some (vI 1))) S J) ((-2147483648 ≤ (J 313 18) + ((k : Nat) : Int) ∧ (J 313 18) + ((k : Nat) : Int) ≤ 2147483647) ∧ (0 ≤ (J 313 18) + ((k : Nat) : Int)) ∧ ((J 313 18) + ((k : Nat) : Int) < 300) ∧ (0 ≤ ((k : Nat) : Int) ∧ ((k : Nat) : Int) < ((bs.length : Nat) : Int)) ∧ Br (J 325 ((J 313 18) + ((k : Nat) : Int)).toNat = bs.getD ((k : Nat) : Int).toNat 0) ((-2147483648 ≤ ((k : Nat) : Int) + 1 ∧ ((k : Nat) : Int) + 1 ≤ 2147483647) ∧ V w 4 mX5_isWord 28 [some (vR 313), some (vR (2 * i)), some (vI ((k + 1 : Nat) : Int))] [] S J Q) (Q (.inl (some (vI 0))) S J))) :
    V w 4 mX5_isWord 28 [some (vR 313), some (vR (2 * i)), some (vI ((k : Nat) : Int))] [] S J Q := by
  refine v_iload_n dX5_isWord_28 rfl ?_
  refine v_aload_n dX5_isWord_29 rfl ?_
  refine v_callVS (d' := 1) (rest := [vI ((k : Nat) : Int)]) [] dX5_isWord_30 vsX5_206 hi rfl one_nil (Nat.le_of_ble_eq_true rfl) (Nat.le_of_ble_eq_true rfl) (Nat.le_of_ble_eq_true rfl) ?_
  refine s_strLen hL i bs hi  ?_
  show V w 4 mX5_isWord 33 [some (vR 313), some (vR (2 * i)), some (vI ((k : Nat) : Int))] [vI ((bs.length : Nat) : Int), vI ((k : Nat) : Int)] S J Q
  obtain ⟨K1, K2⟩ := K
  refine v_icmp_ge 63 dX5_isWord_33 (by decide) (fun c1 => ?_) (fun c1 => ?_)
  · have K := K1 c1
    refine v_iconst dX5_isWord_63 (in_lit (by decide)) ?_
    exact v_iret dX5_isWord_64 rfl (by decide) K
  · have K := K2 c1
    refine v_aload_n dX5_isWord_36 rfl ?_
    refine v_getR dX5_isWord_37 frX5_47_5 rfl (L_313 hL).1 (LR_313_15 hL) (Or.inl rfl) ?_
    refine v_aload_n dX5_isWord_40 rfl ?_
    refine v_getI dX5_isWord_41 frX5_186_5 rfl rfl (L_313 hL).1 ?_
    refine v_iload_n dX5_isWord_44 rfl ?_
    obtain ⟨o1, K⟩ := K
    refine v_iadd dX5_isWord_45 o1 ?_
    obtain ⟨o2, K⟩ := K
    obtain ⟨o3, K⟩ := K
    refine ld_325 dX5_isWord_46 hL o2 o3 ?_
    refine v_aload_n dX5_isWord_47 rfl ?_
    refine v_iload_n dX5_isWord_48 rfl ?_
    refine v_callVS (d' := 3) (rest := [vI (J 325 ((J 313 18) + ((k : Nat) : Int)).toNat)]) [vI ((k : Nat) : Int)] dX5_isWord_49 vsX5_212 hi rfl (one_I one_nil) (Nat.le_of_ble_eq_true rfl) (Nat.le_of_ble_eq_true rfl) (Nat.le_of_ble_eq_true rfl) ?_
    obtain ⟨o4, K⟩ := K
    refine s_charAt hL i bs hi ((k : Nat) : Int) o4 ?_
    show V w 4 mX5_isWord 52 [some (vR 313), some (vR (2 * i)), some (vI ((k : Nat) : Int))] [vI (bs.getD ((k : Nat) : Int).toNat 0), vI (J 325 ((J 313 18) + ((k : Nat) : Int)).toNat)] S J Q
    obtain ⟨K1, K2⟩ := K
    refine v_icmp_eq 57 dX5_isWord_52 (by decide) (fun c2 => ?_) (fun c2 => ?_)
    · have K := K1 c2
      obtain ⟨o5, K⟩ := K
      refine v_iinc dX5_isWord_57 rfl o5 ?_
      show V w 4 mX5_isWord 60 [some (vR 313), some (vR (2 * i)), some (vI ((k + 1 : Nat) : Int))] [] S J Q
      refine v_goto 28 dX5_isWord_60 (by decide) ?_
      exact K
    · have K := K2 c2
      refine v_iconst dX5_isWord_55 (in_lit (by decide)) ?_
      exact v_iret dX5_isWord_56 rfl (by decide) K

/-- the word at hand is bs -/
def WordIs (J : Jm) (bs : List Int) : Prop := J 313 19 = 3 ∧ J 313 17 - J 313 18 = ((bs.length : Nat) : Int) ∧ ∀ k : Nat, k < bs.length → J 325 ((J 313 18).toNat + k) = bs.getD k 0
theorem s_isWord {w : Wd} {S : Sh} {J : Jm} {Q : Out → Sh → Jm → Prop} (hL : Lay S) (i : Nat) (bs : List Int) (hi : StrB i bs) (h0 : 0 ≤ J 313 18 ∧ J 313 18 ≤ 300 ∧ 0 ≤ J 313 17 ∧ J 313 17 ≤ 300) (K1 : WordIs J bs → Q (.inl (some (vI 1))) S J) (K2 : ¬ WordIs J bs → Q (.inl (some (vI 0))) S J) : V w 4 mX5_isWord 0 (ent mX5_isWord [vR 313, vR (2 * i)]) [] S J Q := by
  have hl := hi.len
  refine gX5_isWord_0 hL i bs hi (br_i (fun h1 => ⟨by omega, br_i (fun h2 => ?_) (fun h2 => K2 (fun q => h2 q.2.1))⟩) (fun h1 => K2 (fun q => h1 q.1)))
  have loop : ∀ (n k : Nat), k + n = bs.length → (∀ j : Nat, j < k → J 325 ((J 313 18).toNat + j) = bs.getD j 0) → V w 4 mX5_isWord 28 [some (vR 313), some (vR (2 * i)), some (vI (k : Int))] [] S J Q := by
    intro n
    induction n with
    | zero =>
      intro k hk hj
      refine gX5_isWord_28 hL i bs hi k (br_y (by omega) (K1 ⟨h1, h2, fun j h => hj j (by omega)⟩))
    | succ n ih =>
      intro k hk hj
      refine gX5_isWord_28 hL i bs hi k (br_n (by omega) ?_)
      (repeat' (first | (refine And.intro ?_ ?_; omega)))
      rw [show (J 313 18 + (k : Int)).toNat = (J 313 18).toNat + k by omega]
      refine br_i (fun hb => ?_) (fun hb => K2 (fun q => hb (q.2.2 k (by omega))))
      (repeat' (first | (refine And.intro ?_ ?_; omega)))
      refine ih (k + 1) (by omega) (fun j h => ?_)
      by_cases hjk : j = k
      · rw [hjk]; exact hb
      · exact hj j (by omega)
  exact loop bs.length 0 (by omega) (fun j h => absurd h (by omega))
/-- the token from a on is the word bs -/
abbrev tW (J : Jm) (a : Nat) (bs : List Int) : Prop := tK J a = 3 ∧ tE J a = tP J a + bs.length ∧ (List.range bs.length).map (fun k => J 325 (tP J a + k)) = bs
theorem map_range_eq {f : Nat → Int} {bs : List Int} : (List.range bs.length).map f = bs ↔ ∀ k : Nat, k < bs.length → f k = bs.getD k 0 := by
  constructor
  · intro h k hk
    have := congrArg (fun l => l.getD k 0) h
    simpa [hk] using this
  · intro h
    apply List.ext_getElem (by simp)
    intro k h1 h2
    have := h k h2
    simp [h2] at this ⊢
    exact this
theorem WordIs.iff {J0 J : Jm} {a : Nat} (hm : Mp J0 J) (hk : Tk J0 J a) (bs : List Int) : WordIs J bs ↔ tW J0 a bs := by
  obtain ⟨h1, h2, h3, h4⟩ := hk
  unfold WordIs tW
  rw [h1, h2, h3, map_range_eq]
  simp only [hm 325 _ rfl, Int.toNat_natCast]
  constructor
  · rintro ⟨q1, q2, q3⟩
    exact ⟨q1, by omega, q3⟩
  · rintro ⟨q1, q2, q3⟩
    exact ⟨q1, by omega, q3⟩
