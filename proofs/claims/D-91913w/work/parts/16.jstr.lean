/-! strings: length, charAt, indexOf -/
set_option maxRecDepth 100000
theorem gJ3_coder_0 {w : Wd} {S : Sh} {J : Jm} {Q : Out → Sh → Jm → Prop} (hL : Lay S) (i : Nat) (bs : List Int) (hi : StrB i bs)
    (K : Q (.inl (some (vI 0))) S J) :
    V w 0 mJ3_coder 0 (ent mJ3_coder [vR (2 * i)]) [] S J Q := by
  show V w 0 mJ3_coder 0 [some (vR (2 * i))] [] S J Q
  refine v_getsZ dJ3_coder_0 q525 ?_
  refine v_if_eq 13 dJ3_coder_3 (by decide) (fun cQ => absurd cQ (by decide)) (fun _ => ?_)
  refine v_aload_n dJ3_coder_6 rfl ?_
  refine vs_coder dJ3_coder_7 q2280 hi ?_
  refine v_goto 14 dJ3_coder_10 (by decide) ?_
  exact v_iret dJ3_coder_14 rfl (by decide) K
theorem gJ3_isLatin1_0 {w : Wd} {S : Sh} {J : Jm} {Q : Out → Sh → Jm → Prop} (hL : Lay S) (i : Nat) (bs : List Int) (hi : StrB i bs)
    (K : Q (.inl (some (vI 1))) S J) :
    V w 0 mJ3_isLatin1 0 (ent mJ3_isLatin1 [vR (2 * i)]) [] S J Q := by
  show V w 0 mJ3_isLatin1 0 [some (vR (2 * i))] [] S J Q
  refine v_getsZ dJ3_isLatin1_0 q525 ?_
  refine v_if_eq 17 dJ3_isLatin1_3 (by decide) (fun cQ => absurd cQ (by decide)) (fun _ => ?_)
  refine v_aload_n dJ3_isLatin1_6 rfl ?_
  refine vs_coder dJ3_isLatin1_7 q2280 hi ?_
  refine v_if_ne 17 dJ3_isLatin1_10 (by decide) (fun cQ => absurd cQ (by decide)) (fun _ => ?_)
  refine v_iconst dJ3_isLatin1_13 (in_lit (by decide)) ?_
  refine v_goto 18 dJ3_isLatin1_14 (by decide) ?_
  exact v_iret dJ3_isLatin1_18 rfl (by decide) K
theorem gJ3_length_0 {w : Wd} {S : Sh} {J : Jm} {Q : Out → Sh → Jm → Prop} (hL : Lay S) (i : Nat) (bs : List Int) (hi : StrB i bs)
    (K : Q (.inl (some (vI (zshr ((bs.length : Nat) : Int) 0)))) S J) :
    V w 1 mJ3_length 0 (ent mJ3_length [vR (2 * i)]) [] S J Q := by
  show V w 1 mJ3_length 0 [some (vR (2 * i))] [] S J Q
  refine v_aload_n dJ3_length_0 rfl ?_
  refine vs_value dJ3_length_1 q2279 hi ?_
  refine vs_alen dJ3_length_4 hi ?_
  refine v_aload_n dJ3_length_5 rfl ?_
  refine v_callVS (d' := 0) (rest := [vI ((bs.length : Nat) : Int)]) [] dJ3_length_6 vsJ3_335 hi rfl one_nil (Nat.le_of_ble_eq_true rfl) (Nat.le_of_ble_eq_true rfl) (Nat.le_of_ble_eq_true rfl) ?_
  refine gJ3_coder_0 hL i bs hi  ?_
  show V w 1 mJ3_length 9 [some (vR (2 * i))] [vI 0, vI ((bs.length : Nat) : Int)] S J Q
  refine v_ishr dJ3_length_9 ?_
  exact v_iret dJ3_length_10 rfl rfl K

theorem zshr_16 : ∀ n : Nat, n < 16 → zshr (n : Int) 0 = (n : Int) := by decide +kernel
theorem zc_128 : ∀ n : Nat, n < 128 → zc16 (zand (n : Int) 255) = (n : Int) := by decide +kernel
theorem zc_in {z : Int} (h : 0 ≤ z ∧ z < 128) : zc16 (zand z 255) = z := by
  obtain ⟨n, rfl⟩ : ∃ n : Nat, z = n := ⟨z.toNat, by omega⟩
  exact zc_128 n (by omega)
theorem nar_char : ∀ n : Nat, n < 128 → narrow .char (.int (Int32.ofInt (n : Int))) = .int (Int32.ofInt (n : Int)) := by decide +kernel
theorem nar_c {z : Int} (h : 0 ≤ z ∧ z < 128) : narrow .char (.int (Int32.ofInt z)) = .int (Int32.ofInt z) := by
  obtain ⟨n, rfl⟩ : ∃ n : Nat, z = n := ⟨z.toNat, by omega⟩
  exact nar_char n (by omega)
theorem s_strLen {w : Wd} {S : Sh} {J : Jm} {Q : Out → Sh → Jm → Prop} (hL : Lay S) (i : Nat) (bs : List Int) (hi : StrB i bs) (K : Q (.inl (some (vI ((bs.length : Nat) : Int)))) S J) : V w 1 mJ3_length 0 (ent mJ3_length [vR (2 * i)]) [] S J Q := by
  refine gJ3_length_0 hL i bs hi ?_
  rw [zshr_16 _ hi.len]
  exact K
theorem gJ5_checkIndex_0 {w : Wd} {S : Sh} {J : Jm} {Q : Out → Sh → Jm → Prop} (hL : Lay S) (x0 : Int) (x1 : Int) (fm : Option Nat)
    (K : Br (x0 < 0) (False) (Br (x0 < x1) (Q (.inl (some (vI x0))) S J) (False))) :
    V w 0 mJ5_checkIndex 0 (ent mJ5_checkIndex [vI x0, vI x1, vO fm]) [] S J Q := by
  show V w 0 mJ5_checkIndex 0 [some (vI x0), some (vI x1), some (vO fm)] [] S J Q
  refine v_iload_n dJ5_checkIndex_0 rfl ?_
  obtain ⟨K1, K2⟩ := K
  refine v_if_lt 9 dJ5_checkIndex_1 (by decide) (fun c1 => ?_) (fun c1 => ?_)
  · have K := K1 c1
    refine v_aload_n dJ5_checkIndex_9 rfl ?_
    refine v_iload_n dJ5_checkIndex_10 rfl ?_
    refine v_iload_n dJ5_checkIndex_11 rfl ?_
    exact False.elim K
  · have K := K2 c1
    refine v_iload_n dJ5_checkIndex_4 rfl ?_
    refine v_iload_n dJ5_checkIndex_5 rfl ?_
    obtain ⟨K1, K2⟩ := K
    refine v_icmp_lt 16 dJ5_checkIndex_6 (by decide) (fun c2 => ?_) (fun c2 => ?_)
    · have K := K1 c2
      refine v_iload_n dJ5_checkIndex_16 rfl ?_
      exact v_iret dJ5_checkIndex_17 rfl rfl K
    · have K := K2 c2
      refine v_aload_n dJ5_checkIndex_9 rfl ?_
      refine v_iload_n dJ5_checkIndex_10 rfl ?_
      refine v_iload_n dJ5_checkIndex_11 rfl ?_
      exact False.elim K

theorem s_pcheck {w : Wd} {S : Sh} {J : Jm} {Q : Out → Sh → Jm → Prop} (hL : Lay S) (k n : Int) (fm : Option Nat) (h : 0 ≤ k ∧ k < n) (K : Q (.inl (some (vI k))) S J) : V w 0 mJ5_checkIndex 0 (ent mJ5_checkIndex [vI k, vI n, vO fm]) [] S J Q :=
  gJ5_checkIndex_0 hL k n fm (br_n (by omega) (br_y h.2 K))
theorem gJ3_checkIndex_0 {w : Wd} {S : Sh} {J : Jm} {Q : Out → Sh → Jm → Prop} (hL : Lay S) (x0 : Int) (x1 : Int)
    (K : ∀ g1 : Option Nat, (0 ≤ x0 ∧ x0 < x1) ∧ Q (.inl none) S J) :
    V w 1 mJ3_checkIndex 0 (ent mJ3_checkIndex [vI x0, vI x1]) [] S J Q := by
  show V w 1 mJ3_checkIndex 0 [some (vI x0), some (vI x1)] [] S J Q
  refine v_iload_n dJ3_checkIndex_0 rfl ?_
  refine v_iload_n dJ3_checkIndex_1 rfl ?_
  refine v_getsR (i := 0) dJ3_checkIndex_2 rfl q541 (fun g1 => ?_)
  have K := K g1
  refine v_callS (d' := 0) (rest := []) [vI x0, vI x1, vO g1] dJ3_checkIndex_5 srJ3_1059 rfl (one_I (one_I (one_O one_nil))) (Nat.le_of_ble_eq_true rfl) (Nat.le_of_ble_eq_true rfl) (Nat.le_of_ble_eq_true rfl) ?_
  obtain ⟨o2, K⟩ := K
  refine s_pcheck hL x0 x1 g1 o2 ?_
  show V w 1 mJ3_checkIndex 8 [some (vI x0), some (vI x1)] [vI x0] S J Q
  refine v_pop dJ3_checkIndex_8 trivial ?_
  exact v_vret dJ3_checkIndex_9 rfl K

theorem s_scheck {w : Wd} {S : Sh} {J : Jm} {Q : Out → Sh → Jm → Prop} (hL : Lay S) (k n : Int) (h : 0 ≤ k ∧ k < n) (K : Q (.inl none) S J) : V w 1 mJ3_checkIndex 0 (ent mJ3_checkIndex [vI k, vI n]) [] S J Q :=
  gJ3_checkIndex_0 hL k n (fun _ => ⟨h, K⟩)
theorem gJ4_charAt_0 {w : Wd} {S : Sh} {J : Jm} {Q : Out → Sh → Jm → Prop} (hL : Lay S) (i : Nat) (bs : List Int) (hi : StrB i bs) (x1 : Int)
    (K : (0 ≤ x1 ∧ x1 < ((bs.length : Nat) : Int)) ∧ (0 ≤ x1) ∧ (x1 < ((bs.length : Nat) : Int)) ∧ (narrow .char (.int (Int32.ofInt (zc16 (zand (bs.getD x1.toNat 0) 255)))) = .int (Int32.ofInt (zc16 (zand (bs.getD x1.toNat 0) 255)))) ∧ Q (.inl (some (vI (zc16 (zand (bs.getD x1.toNat 0) 255))))) S J) :
    V w 2 mJ4_charAt 0 (ent mJ4_charAt [vR (2 * i + 1), vI x1]) [] S J Q := by
  show V w 2 mJ4_charAt 0 [some (vR (2 * i + 1)), some (vI x1)] [] S J Q
  refine v_iload_n dJ4_charAt_0 rfl ?_
  refine v_aload_n dJ4_charAt_1 rfl ?_
  refine vs_alen dJ4_charAt_2 hi ?_
  refine v_callS (d' := 1) (rest := []) [vI x1, vI ((bs.length : Nat) : Int)] dJ4_charAt_3 srJ4_9 rfl (one_I (one_I one_nil)) (Nat.le_of_ble_eq_true rfl) (Nat.le_of_ble_eq_true rfl) (Nat.le_of_ble_eq_true rfl) ?_
  obtain ⟨o1, K⟩ := K
  refine s_scheck hL x1 ((bs.length : Nat) : Int) o1 ?_
  show V w 2 mJ4_charAt 6 [some (vR (2 * i + 1)), some (vI x1)] [] S J Q
  refine v_aload_n dJ4_charAt_6 rfl ?_
  refine v_iload_n dJ4_charAt_7 rfl ?_
  obtain ⟨o2, K⟩ := K
  obtain ⟨o3, K⟩ := K
  refine vs_bald dJ4_charAt_8 hi o2 o3 ?_
  refine v_sipush dJ4_charAt_9 (by decide) (in_lit (by decide)) ?_
  refine v_iand dJ4_charAt_12 ?_
  refine v_i2c dJ4_charAt_13 ?_
  obtain ⟨o4, K⟩ := K
  exact v_iret dJ4_charAt_14 rfl o4 K

theorem s_lcharAt {w : Wd} {S : Sh} {J : Jm} {Q : Out → Sh → Jm → Prop} (hL : Lay S) (i : Nat) (bs : List Int) (hi : StrB i bs) (k : Int) (h : 0 ≤ k ∧ k < ((bs.length : Nat) : Int)) (K : Q (.inl (some (vI (bs.getD k.toNat 0)))) S J) : V w 2 mJ4_charAt 0 (ent mJ4_charAt [vR (2 * i + 1), vI k]) [] S J Q := by
  have hb := hi.in k.toNat
  refine gJ4_charAt_0 hL i bs hi k ⟨h, h.1, h.2, ?_⟩
  rw [zc_in hb]
  exact ⟨nar_c hb, K⟩
theorem gJ3_charAt_0 {w : Wd} {S : Sh} {J : Jm} {Q : Out → Sh → Jm → Prop} (hL : Lay S) (i : Nat) (bs : List Int) (hi : StrB i bs) (x1 : Int)
    (K : (0 ≤ x1 ∧ x1 < ((bs.length : Nat) : Int)) ∧ (narrow .char (.int (Int32.ofInt (bs.getD x1.toNat 0))) = .int (Int32.ofInt (bs.getD x1.toNat 0))) ∧ Q (.inl (some (vI (bs.getD x1.toNat 0)))) S J) :
    V w 3 mJ3_charAt 0 (ent mJ3_charAt [vR (2 * i), vI x1]) [] S J Q := by
  show V w 3 mJ3_charAt 0 [some (vR (2 * i)), some (vI x1)] [] S J Q
  refine v_aload_n dJ3_charAt_0 rfl ?_
  refine v_callVS (d' := 0) (rest := []) [] dJ3_charAt_1 vsJ3_492 hi rfl one_nil (Nat.le_of_ble_eq_true rfl) (Nat.le_of_ble_eq_true rfl) (Nat.le_of_ble_eq_true rfl) ?_
  refine gJ3_isLatin1_0 hL i bs hi  ?_
  show V w 3 mJ3_charAt 4 [some (vR (2 * i)), some (vI x1)] [vI 1] S J Q
  refine v_if_eq 16 dJ3_charAt_4 (by decide) (fun cQ => absurd cQ (by decide)) (fun _ => ?_)
  refine v_aload_n dJ3_charAt_7 rfl ?_
  refine vs_value dJ3_charAt_8 q2279 hi ?_
  refine v_iload_n dJ3_charAt_11 rfl ?_
  refine v_callS (d' := 2) (rest := []) [vR (2 * i + 1), vI x1] dJ3_charAt_12 srJ3_495 rfl (one_O (one_I one_nil)) (Nat.le_of_ble_eq_true rfl) (Nat.le_of_ble_eq_true rfl) (Nat.le_of_ble_eq_true rfl) ?_
  obtain ⟨o1, K⟩ := K
  refine s_lcharAt hL i bs hi x1 o1 ?_
  show V w 3 mJ3_charAt 15 [some (vR (2 * i)), some (vI x1)] [vI (bs.getD x1.toNat 0)] S J Q
  obtain ⟨o2, K⟩ := K
  exact v_iret dJ3_charAt_15 rfl o2 K

theorem s_charAt {w : Wd} {S : Sh} {J : Jm} {Q : Out → Sh → Jm → Prop} (hL : Lay S) (i : Nat) (bs : List Int) (hi : StrB i bs) (k : Int) (h : 0 ≤ k ∧ k < ((bs.length : Nat) : Int)) (K : Q (.inl (some (vI (bs.getD k.toNat 0)))) S J) : V w 3 mJ3_charAt 0 (ent mJ3_charAt [vR (2 * i), vI k]) [] S J Q :=
  gJ3_charAt_0 hL i bs hi k ⟨h, nar_c (hi.in k.toNat), K⟩
theorem gJ10_max_0 {w : Wd} {S : Sh} {J : Jm} {Q : Out → Sh → Jm → Prop} (hL : Lay S) (x0 : Int) (x1 : Int)
    (K : Br (x0 < x1) (Q (.inl (some (vI x1))) S J) (Q (.inl (some (vI x0))) S J)) :
    V w 0 mJ10_max 0 (ent mJ10_max [vI x0, vI x1]) [] S J Q := by
  show V w 0 mJ10_max 0 [some (vI x0), some (vI x1)] [] S J Q
  refine v_iload_n dJ10_max_0 rfl ?_
  refine v_iload_n dJ10_max_1 rfl ?_
  obtain ⟨K1, K2⟩ := K
  refine v_icmp_lt 9 dJ10_max_2 (by decide) (fun c1 => ?_) (fun c1 => ?_)
  · have K := K1 c1
    refine v_iload_n dJ10_max_9 rfl ?_
    exact v_iret dJ10_max_10 rfl rfl K
  · have K := K2 c1
    refine v_iload_n dJ10_max_5 rfl ?_
    refine v_goto 10 dJ10_max_6 (by decide) ?_
    exact v_iret dJ10_max_10 rfl rfl K
theorem gJ10_min_0 {w : Wd} {S : Sh} {J : Jm} {Q : Out → Sh → Jm → Prop} (hL : Lay S) (x0 : Int) (x1 : Int)
    (K : Br (x1 < x0) (Q (.inl (some (vI x1))) S J) (Q (.inl (some (vI x0))) S J)) :
    V w 0 mJ10_min 0 (ent mJ10_min [vI x0, vI x1]) [] S J Q := by
  show V w 0 mJ10_min 0 [some (vI x0), some (vI x1)] [] S J Q
  refine v_iload_n dJ10_min_0 rfl ?_
  refine v_iload_n dJ10_min_1 rfl ?_
  obtain ⟨K1, K2⟩ := K
  refine v_icmp_gt 9 dJ10_min_2 (by decide) (fun c1 => ?_) (fun c1 => ?_)
  · have K := K1 c1
    refine v_iload_n dJ10_min_9 rfl ?_
    exact v_iret dJ10_min_10 rfl rfl K
  · have K := K2 c1
    refine v_iload_n dJ10_min_5 rfl ?_
    refine v_goto 10 dJ10_min_6 (by decide) ?_
    exact v_iret dJ10_min_10 rfl rfl K
theorem gJ4_canEncode_0 {w : Wd} {S : Sh} {J : Jm} {Q : Out → Sh → Jm → Prop} (hL : Lay S) (x0 : Int)
    (K : Br (x0 < 0) (Q (.inl (some (vI 0))) S J) (Br (255 < x0) (Q (.inl (some (vI 0))) S J) (Q (.inl (some (vI 1))) S J))) :
    V w 0 mJ4_canEncode 0 (ent mJ4_canEncode [vI x0]) [] S J Q := by
  show V w 0 mJ4_canEncode 0 [some (vI x0)] [] S J Q
  refine v_iload_n dJ4_canEncode_0 rfl ?_
  obtain ⟨K1, K2⟩ := K
  refine v_if_lt 15 dJ4_canEncode_1 (by decide) (fun c1 => ?_) (fun c1 => ?_)
  · have K := K1 c1
    refine v_iconst dJ4_canEncode_15 (in_lit (by decide)) ?_
    exact v_iret dJ4_canEncode_16 rfl (by decide) K
  · have K := K2 c1
    refine v_iload_n dJ4_canEncode_4 rfl ?_
    refine v_sipush dJ4_canEncode_5 (by decide) (in_lit (by decide)) ?_
    obtain ⟨K1, K2⟩ := K
    refine v_icmp_gt 15 dJ4_canEncode_8 (by decide) (fun c2 => ?_) (fun c2 => ?_)
    · have K := K1 c2
      refine v_iconst dJ4_canEncode_15 (in_lit (by decide)) ?_
      exact v_iret dJ4_canEncode_16 rfl (by decide) K
    · have K := K2 c2
      refine v_iconst dJ4_canEncode_11 (in_lit (by decide)) ?_
      refine v_goto 16 dJ4_canEncode_12 (by decide) ?_
      exact v_iret dJ4_canEncode_16 rfl (by decide) K

def zmax (a b : Int) : Int := if a < b then b else a
def zmin (a b : Int) : Int := if a ≤ b then a else b
theorem s_max {w : Wd} {S : Sh} {J : Jm} {Q : Out → Sh → Jm → Prop} (hL : Lay S) (a b : Int) (K : Q (.inl (some (vI (zmax a b)))) S J) : V w 0 mJ10_max 0 (ent mJ10_max [vI a, vI b]) [] S J Q := by
  unfold zmax at K
  refine gJ10_max_0 hL a b (br_i (fun h => ?_) (fun h => ?_))
  · rw [if_pos (by omega)] at K; exact K
  · rw [if_neg (by omega)] at K; exact K
theorem s_min {w : Wd} {S : Sh} {J : Jm} {Q : Out → Sh → Jm → Prop} (hL : Lay S) (a b : Int) (K : Q (.inl (some (vI (zmin a b)))) S J) : V w 0 mJ10_min 0 (ent mJ10_min [vI a, vI b]) [] S J Q := by
  unfold zmin at K
  refine gJ10_min_0 hL a b (br_i (fun h => ?_) (fun h => ?_))
  · rw [if_neg (by omega)] at K; exact K
  · rw [if_pos (by omega)] at K; exact K
theorem s_canEnc {w : Wd} {S : Sh} {J : Jm} {Q : Out → Sh → Jm → Prop} (hL : Lay S) (c : Int) (K1 : (0 ≤ c ∧ c ≤ 255) → Q (.inl (some (vI 1))) S J) (K2 : ¬ (0 ≤ c ∧ c ≤ 255) → Q (.inl (some (vI 0))) S J) : V w 0 mJ4_canEncode 0 (ent mJ4_canEncode [vI c]) [] S J Q := by
  refine gJ4_canEncode_0 hL c ?_
  repeat' (first | refine br_i (fun hb => ?_) (fun hb => ?_) | (refine And.intro ?_ ?_; omega))
  all_goals (first | exact K1 (by omega) | exact K2 (by omega))
theorem gJ4_indexOfChar_0 {w : Wd} {S : Sh} {J : Jm} {Q : Out → Sh → Jm → Prop} (hL : Lay S) (i : Nat) (bs : List Int) (hi : StrB i bs) (c : Int) (fr : Int) (to : Int)
    (K : V w 0 mJ4_indexOfChar 7 [some (vR (2 * i + 1)), none, none, some (vI to), some (vI (zb8 c)), some (vI fr)] [] S J Q) :
    V w 0 mJ4_indexOfChar 0 (ent mJ4_indexOfChar [vR (2 * i + 1), vI c, vI fr, vI to]) [] S J Q := by
  show V w 0 mJ4_indexOfChar 0 [some (vR (2 * i + 1)), some (vI c), some (vI fr), some (vI to), none, none] [] S J Q
  refine v_iload_n dJ4_indexOfChar_0 rfl ?_
  refine v_i2b dJ4_indexOfChar_1 ?_
  refine v_istore dJ4_indexOfChar_2 (Nat.le_of_ble_eq_true rfl) ?_
  show V w 0 mJ4_indexOfChar 4 [some (vR (2 * i + 1)), some (vI c), some (vI fr), some (vI to), some (vI (zb8 c)), none] [] S J Q
  refine v_iload_n dJ4_indexOfChar_4 rfl ?_
  refine v_istore dJ4_indexOfChar_5 (Nat.le_of_ble_eq_true rfl) ?_
  show V w 0 mJ4_indexOfChar 7 [some (vR (2 * i + 1)), some (vI c), some (vI fr), some (vI to), some (vI (zb8 c)), some (vI fr)] [] S J Q
  exact v_forget (fg_some (fg_none (fg_none (fg_some (fg_some (fg_some fg_nil)))))) K
theorem gJ4_indexOfChar_7 {w : Wd} {S : Sh} {J : Jm} {Q : Out → Sh → Jm → Prop} (hL : Lay S) (i : Nat) (bs : List Int) (hi : StrB i bs) (to : Int) (c : Int) (k : Nat)
    (K : Br (to ≤ ((k : Nat) : Int)) (Q (.inl (some (vI (-1)))) S J) ((((k : Nat) : Int) < ((bs.length : Nat) : Int)) ∧ Br (bs.getD k 0 = c) (Q (.inl (some (vI ((k : Nat) : Int)))) S J) ((-2147483648 ≤ ((k : Nat) : Int) + 1 ∧ ((k : Nat) : Int) + 1 ≤ 2147483647) ∧ V w 0 mJ4_indexOfChar 7 [some (vR (2 * i + 1)), none, none, some (vI to), some (vI c), some (vI ((k + 1 : Nat) : Int))] [] S J Q))) :
    V w 0 mJ4_indexOfChar 7 [some (vR (2 * i + 1)), none, none, some (vI to), some (vI c), some (vI ((k : Nat) : Int))] [] S J Q := by
  refine v_iload dJ4_indexOfChar_7 rfl ?_
  refine v_iload_n dJ4_indexOfChar_9 rfl ?_
  obtain ⟨K1, K2⟩ := K
  refine v_icmp_ge 31 dJ4_indexOfChar_10 (by decide) (fun c1 => ?_) (fun c1 => ?_)
  · have K := K1 c1
    refine v_iconst dJ4_indexOfChar_31 (in_lit (by decide)) ?_
    exact v_iret dJ4_indexOfChar_32 rfl rfl K
  · have K := K2 c1
    refine v_aload_n dJ4_indexOfChar_13 rfl ?_
    refine v_iload dJ4_indexOfChar_14 rfl ?_
    obtain ⟨o1, K⟩ := K
    refine vs_bald dJ4_indexOfChar_16 hi (by omega) o1 ?_
    show V w 0 mJ4_indexOfChar 17 [some (vR (2 * i + 1)), none, none, some (vI to), some (vI c), some (vI ((k : Nat) : Int))] [vI (bs.getD k 0)] S J Q
    refine v_iload dJ4_indexOfChar_17 rfl ?_
    obtain ⟨K1, K2⟩ := K
    refine v_icmp_ne 25 dJ4_indexOfChar_19 (by decide) (fun c2 => ?_) (fun c2 => ?_)
    · have K := K2 c2
      obtain ⟨o2, K⟩ := K
      refine v_iinc dJ4_indexOfChar_25 rfl o2 ?_
      show V w 0 mJ4_indexOfChar 28 [some (vR (2 * i + 1)), none, none, some (vI to), some (vI c), some (vI ((k + 1 : Nat) : Int))] [] S J Q
      refine v_goto 7 dJ4_indexOfChar_28 (by decide) ?_
      exact K
    · have K := K1 c2
      refine v_iload dJ4_indexOfChar_22 rfl ?_
      exact v_iret dJ4_indexOfChar_24 rfl rfl K

/-- which vowel a letter is; -1 -/
def vwI (c : Int) : Int := if c = 97 then 0 else if c = 101 then 1 else if c = 105 then 2 else if c = 111 then 3 else if c = 117 then 4 else -1
theorem zb8_255 : ∀ n : Nat, n < 256 → (zb8 (n : Int) = (n : Int) ∧ n < 128) ∨ (zb8 (n : Int) = (n : Int) - 256 ∧ 128 ≤ n) := by decide +kernel
theorem zb8_eq {c : Int} (h : 0 ≤ c ∧ c ≤ 255) {z : Int} (hz : 0 ≤ z ∧ z < 128) : z = zb8 c ↔ c = z := by
  obtain ⟨n, rfl⟩ : ∃ n : Nat, c = n := ⟨c.toNat, by omega⟩
  rcases zb8_255 n (by omega) with q | q <;> omega
theorem strVw : StrB 7 [97, 101, 105, 111, 117] := ⟨_, _, _, rfl⟩
theorem s_ixChar {w : Wd} {S : Sh} {J : Jm} {Q : Out → Sh → Jm → Prop} (hL : Lay S) (c : Int) (h : 0 ≤ c ∧ c ≤ 255) (K : Q (.inl (some (vI (vwI c)))) S J) : V w 0 mJ4_indexOfChar 0 (ent mJ4_indexOfChar [vR (2 * 7 + 1), vI c, vI 0, vI 5]) [] S J Q := by
  refine gJ4_indexOfChar_0 hL 7 _ strVw c 0 5 ?_
  unfold vwI at K
  have go : ∀ (k : Nat) (z : Int), k < 5 → [97, 101, 105, 111, 117].getD k 0 = z → (0 ≤ z ∧ z < 128) → (c = z → Q (.inl (some (vI (k : Int)))) S J) → (¬ c = z → V w 0 mJ4_indexOfChar 7 [some (vR (2 * 7 + 1)), none, none, some (vI 5), some (vI (zb8 c)), some (vI ((k + 1 : Nat) : Int))] [] S J Q) → V w 0 mJ4_indexOfChar 7 [some (vR (2 * 7 + 1)), none, none, some (vI 5), some (vI (zb8 c)), some (vI (k : Int))] [] S J Q := by
    intro k z hk hz h3 h1 h2
    refine gJ4_indexOfChar_7 hL 7 _ strVw 5 (zb8 c) k (br_n (by omega) ⟨by show (k : Int) < ((5 : Nat) : Int); omega, ?_⟩)
    rw [hz]
    exact br_i (fun q => h1 ((zb8_eq h h3).mp q)) (fun q => ⟨by omega, h2 (fun e => q ((zb8_eq h h3).mpr e))⟩)
  refine go 0 97 (by decide) rfl (by decide) (fun q => ?_) (fun q0 => go 1 101 (by decide) rfl (by decide) (fun q => ?_) (fun q1 => go 2 105 (by decide) rfl (by decide) (fun q => ?_) (fun q2 => go 3 111 (by decide) rfl (by decide) (fun q => ?_) (fun q3 => go 4 117 (by decide) rfl (by decide) (fun q => ?_) (fun q4 => ?_)))))
  · rw [if_pos q] at K; exact K
  · rw [if_neg q0, if_pos q] at K; exact K
  · rw [if_neg q0, if_neg q1, if_pos q] at K; exact K
  · rw [if_neg q0, if_neg q1, if_neg q2, if_pos q] at K; exact K
  · rw [if_neg q0, if_neg q1, if_neg q2, if_neg q3, if_pos q] at K; exact K
  · rw [if_neg q0, if_neg q1, if_neg q2, if_neg q3, if_neg q4] at K
    exact gJ4_indexOfChar_7 hL 7 _ strVw 5 (zb8 c) 5 (br_y (by omega) K)
theorem gJ4_indexOf_0 {w : Wd} {S : Sh} {J : Jm} {Q : Out → Sh → Jm → Prop} (hL : Lay S) (i : Nat) (bs : List Int) (hi : StrB i bs) (c : Int) (fr : Int) (to : Int)
    (K : Br (0 ≤ c ∧ c ≤ 255) (Br (zmax fr 0 < zmin to ((bs.length : Nat) : Int)) (V w 0 mJ4_indexOfChar 0 (ent mJ4_indexOfChar [vR (2 * i + 1), vI c, vI (zmax fr 0), vI (zmin to ((bs.length : Nat) : Int))]) [] S J (CallQ w 1 mJ4_indexOf 33 [some (vR (2 * i + 1)), some (vI c), some (vI (zmax fr 0)), some (vI (zmin to ((bs.length : Nat) : Int)))] [] Q)) (Q (.inl (some (vI (-1)))) S J)) (Q (.inl (some (vI (-1)))) S J)) :
    V w 1 mJ4_indexOf 0 (ent mJ4_indexOf [vR (2 * i + 1), vI c, vI fr, vI to]) [] S J Q := by
  show V w 1 mJ4_indexOf 0 [some (vR (2 * i + 1)), some (vI c), some (vI fr), some (vI to)] [] S J Q
  refine v_iload_n dJ4_indexOf_0 rfl ?_
  refine v_callS (d' := 0) (rest := []) [vI c] dJ4_indexOf_1 srJ4_88 rfl (one_I one_nil) (Nat.le_of_ble_eq_true rfl) (Nat.le_of_ble_eq_true rfl) (Nat.le_of_ble_eq_true rfl) ?_
  obtain ⟨K1, K2⟩ := K
  refine s_canEnc hL c  (fun c1 => ?_) (fun c1 => ?_)
  · have K := K1 c1
    show V w 1 mJ4_indexOf 4 [some (vR (2 * i + 1)), some (vI c), some (vI fr), some (vI to)] [vI 1] S J Q
    refine v_if_ne 9 dJ4_indexOf_4 (by decide) (fun _ => ?_) (fun cQ => absurd cQ (by decide))
    refine v_iload_n dJ4_indexOf_9 rfl ?_
    refine v_iconst dJ4_indexOf_10 (in_lit (by decide)) ?_
    refine v_callS (d' := 0) (rest := []) [vI fr, vI 0] dJ4_indexOf_11 srJ4_92 rfl (one_I (one_I one_nil)) (Nat.le_of_ble_eq_true rfl) (Nat.le_of_ble_eq_true rfl) (Nat.le_of_ble_eq_true rfl) ?_
    refine s_max hL fr 0  ?_
    show V w 1 mJ4_indexOf 14 [some (vR (2 * i + 1)), some (vI c), some (vI fr), some (vI to)] [vI (zmax fr 0)] S J Q
    refine v_istore_n dJ4_indexOf_14 (Nat.le_of_ble_eq_true rfl) ?_
    show V w 1 mJ4_indexOf 15 [some (vR (2 * i + 1)), some (vI c), some (vI (zmax fr 0)), some (vI to)] [] S J Q
    refine v_iload_n dJ4_indexOf_15 rfl ?_
    refine v_aload_n dJ4_indexOf_16 rfl ?_
    refine vs_alen dJ4_indexOf_17 hi ?_
    refine v_callS (d' := 0) (rest := []) [vI to, vI ((bs.length : Nat) : Int)] dJ4_indexOf_18 srJ4_38 rfl (one_I (one_I one_nil)) (Nat.le_of_ble_eq_true rfl) (Nat.le_of_ble_eq_true rfl) (Nat.le_of_ble_eq_true rfl) ?_
    refine s_min hL to ((bs.length : Nat) : Int)  ?_
    show V w 1 mJ4_indexOf 21 [some (vR (2 * i + 1)), some (vI c), some (vI (zmax fr 0)), some (vI to)] [vI (zmin to ((bs.length : Nat) : Int))] S J Q
    refine v_istore_n dJ4_indexOf_21 (Nat.le_of_ble_eq_true rfl) ?_
    show V w 1 mJ4_indexOf 22 [some (vR (2 * i + 1)), some (vI c), some (vI (zmax fr 0)), some (vI (zmin to ((bs.length : Nat) : Int)))] [] S J Q
    refine v_iload_n dJ4_indexOf_22 rfl ?_
    refine v_iload_n dJ4_indexOf_23 rfl ?_
    obtain ⟨K1, K2⟩ := K
    refine v_icmp_lt 29 dJ4_indexOf_24 (by decide) (fun c2 => ?_) (fun c2 => ?_)
    · have K := K1 c2
      refine v_aload_n dJ4_indexOf_29 rfl ?_
      refine v_iload_n dJ4_indexOf_30 rfl ?_
      refine v_iload_n dJ4_indexOf_31 rfl ?_
      refine v_iload_n dJ4_indexOf_32 rfl ?_
      refine v_callS (d' := 0) (rest := []) [vR (2 * i + 1), vI c, vI (zmax fr 0), vI (zmin to ((bs.length : Nat) : Int))] dJ4_indexOf_33 srJ4_95 rfl (one_O (one_I (one_I (one_I one_nil)))) (Nat.le_of_ble_eq_true rfl) (Nat.le_of_ble_eq_true rfl) (Nat.le_of_ble_eq_true rfl) ?_
      exact K
    · have K := K2 c2
      refine v_iconst dJ4_indexOf_27 (in_lit (by decide)) ?_
      exact v_iret dJ4_indexOf_28 rfl rfl K
  · have K := K2 c1
    show V w 1 mJ4_indexOf 4 [some (vR (2 * i + 1)), some (vI c), some (vI fr), some (vI to)] [vI 0] S J Q
    refine v_if_ne 9 dJ4_indexOf_4 (by decide) (fun cQ => absurd cQ (by decide)) (fun _ => ?_)
    refine v_iconst dJ4_indexOf_7 (in_lit (by decide)) ?_
    exact v_iret dJ4_indexOf_8 rfl rfl K
theorem gJ3_indexOf_2_0 {w : Wd} {S : Sh} {J : Jm} {Q : Out → Sh → Jm → Prop} (hL : Lay S) (i : Nat) (bs : List Int) (hi : StrB i bs) (x1 : Int) (x2 : Int)
    (K : V w 1 mJ4_indexOf 0 (ent mJ4_indexOf [vR (2 * i + 1), vI x1, vI x2, vI ((bs.length : Nat) : Int)]) [] S J (CallQ w 2 mJ3_indexOf_2 17 [some (vR (2 * i)), some (vI x1), some (vI x2)] [] Q)) :
    V w 2 mJ3_indexOf_2 0 (ent mJ3_indexOf_2 [vR (2 * i), vI x1, vI x2]) [] S J Q := by
  show V w 2 mJ3_indexOf_2 0 [some (vR (2 * i)), some (vI x1), some (vI x2)] [] S J Q
  refine v_aload_n dJ3_indexOf_2_0 rfl ?_
  refine v_callVS (d' := 0) (rest := []) [] dJ3_indexOf_2_1 vsJ3_492 hi rfl one_nil (Nat.le_of_ble_eq_true rfl) (Nat.le_of_ble_eq_true rfl) (Nat.le_of_ble_eq_true rfl) ?_
  refine gJ3_isLatin1_0 hL i bs hi  ?_
  show V w 2 mJ3_indexOf_2 4 [some (vR (2 * i)), some (vI x1), some (vI x2)] [vI 1] S J Q
  refine v_if_eq 23 dJ3_indexOf_2_4 (by decide) (fun cQ => absurd cQ (by decide)) (fun _ => ?_)
  refine v_aload_n dJ3_indexOf_2_7 rfl ?_
  refine vs_value dJ3_indexOf_2_8 q2279 hi ?_
  refine v_iload_n dJ3_indexOf_2_11 rfl ?_
  refine v_iload_n dJ3_indexOf_2_12 rfl ?_
  refine v_aload_n dJ3_indexOf_2_13 rfl ?_
  refine v_callVS (d' := 1) (rest := [vI x2, vI x1, vR (2 * i + 1)]) [] dJ3_indexOf_2_14 vsJ3_505 hi rfl one_nil (Nat.le_of_ble_eq_true rfl) (Nat.le_of_ble_eq_true rfl) (Nat.le_of_ble_eq_true rfl) ?_
  refine s_strLen hL i bs hi  ?_
  show V w 2 mJ3_indexOf_2 17 [some (vR (2 * i)), some (vI x1), some (vI x2)] [vI ((bs.length : Nat) : Int), vI x2, vI x1, vR (2 * i + 1)] S J Q
  refine v_callS (d' := 1) (rest := []) [vR (2 * i + 1), vI x1, vI x2, vI ((bs.length : Nat) : Int)] dJ3_indexOf_2_17 srJ3_637 rfl (one_O (one_I (one_I (one_I one_nil)))) (Nat.le_of_ble_eq_true rfl) (Nat.le_of_ble_eq_true rfl) (Nat.le_of_ble_eq_true rfl) ?_
  exact K
theorem gJ3_indexOf_0 {w : Wd} {S : Sh} {J : Jm} {Q : Out → Sh → Jm → Prop} (hL : Lay S) (i : Nat) (bs : List Int) (hi : StrB i bs) (x1 : Int)
    (K : V w 2 mJ3_indexOf_2 0 (ent mJ3_indexOf_2 [vR (2 * i), vI x1, vI 0]) [] S J (CallQ w 3 mJ3_indexOf 3 [some (vR (2 * i)), some (vI x1)] [] Q)) :
    V w 3 mJ3_indexOf 0 (ent mJ3_indexOf [vR (2 * i), vI x1]) [] S J Q := by
  show V w 3 mJ3_indexOf 0 [some (vR (2 * i)), some (vI x1)] [] S J Q
  refine v_aload_n dJ3_indexOf_0 rfl ?_
  refine v_iload_n dJ3_indexOf_1 rfl ?_
  refine v_iconst dJ3_indexOf_2 (in_lit (by decide)) ?_
  refine v_callVS (d' := 2) (rest := []) [vI x1, vI 0] dJ3_indexOf_3 vsJ3_633 hi rfl (one_I (one_I one_nil)) (Nat.le_of_ble_eq_true rfl) (Nat.le_of_ble_eq_true rfl) (Nat.le_of_ble_eq_true rfl) ?_
  exact K
theorem gJ4_indexOf_36 {w : Wd} {S : Sh} {J : Jm} {Q : Out → Sh → Jm → Prop} (hL : Lay S) (r : Int)
    (K : Q (.inl (some (vI r))) S J) :
    V w 1 mJ4_indexOf 36 [none, none, none, none] [vI r] S J Q := by
  exact v_iret dJ4_indexOf_36 rfl rfl K
theorem gJ3_indexOf_2_20 {w : Wd} {S : Sh} {J : Jm} {Q : Out → Sh → Jm → Prop} (hL : Lay S) (r : Int)
    (K : Q (.inl (some (vI r))) S J) :
    V w 2 mJ3_indexOf_2 20 [none, none, none] [vI r] S J Q := by
  refine v_goto 36 dJ3_indexOf_2_20 (by decide) ?_
  exact v_iret dJ3_indexOf_2_36 rfl rfl K
theorem gJ3_indexOf_6 {w : Wd} {S : Sh} {J : Jm} {Q : Out → Sh → Jm → Prop} (hL : Lay S) (r : Int)
    (K : Q (.inl (some (vI r))) S J) :
    V w 3 mJ3_indexOf 6 [none, none] [vI r] S J Q := by
  exact v_iret dJ3_indexOf_6 rfl rfl K

theorem s_indexOf {w : Wd} {S : Sh} {J : Jm} {Q : Out → Sh → Jm → Prop} (hL : Lay S) (c : Int) (K : Q (.inl (some (vI (vwI c)))) S J) : V w 3 mJ3_indexOf 0 (ent mJ3_indexOf [vR (2 * 7), vI c]) [] S J Q := by
  refine gJ3_indexOf_0 hL 7 _ strVw c ?_
  refine gJ3_indexOf_2_0 hL 7 _ strVw c 0 ?_
  have fin : ∀ r : Int, r = vwI c → V w 2 mJ3_indexOf_2 20 [none, none, none] [vI r] S J (CallQ w 3 mJ3_indexOf 3 [some (vR (2 * 7)), some (vI c)] [] Q) := by
    intro r hr
    refine gJ3_indexOf_2_20 hL r ?_
    show V w 3 mJ3_indexOf 6 [some (vR (2 * 7)), some (vI c)] [vI r] S J Q
    refine v_forget (fg_none (fg_none fg_nil)) (gJ3_indexOf_6 hL r ?_)
    rw [hr]
    exact K
  refine gJ4_indexOf_0 hL 7 _ strVw c 0 ((5 : Nat) : Int) (br_i (fun h => br_y (by decide) ?_) (fun h => ?_))
  · refine s_ixChar hL c h ?_
    refine v_forget (fg_none (fg_none (fg_none (fg_none fg_nil)))) (gJ4_indexOf_36 hL _ ?_)
    exact v_forget (fg_none (fg_none (fg_none fg_nil))) (fin _ rfl)
  · refine v_forget (fg_none (fg_none (fg_none fg_nil))) (fin _ ?_)
    unfold vwI
    rw [if_neg (by omega), if_neg (by omega), if_neg (by omega), if_neg (by omega), if_neg (by omega)]
