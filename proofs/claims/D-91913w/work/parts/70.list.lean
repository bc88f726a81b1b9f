/-! lists -/
set_option maxRecDepth 100000
theorem gJ2_size_0 {w : Wd} {S : Sh} {J : Jm} {Q : Out → Sh → Jm → Prop} (hL : Lay S) (l : Nat)
    (K : (Sh.tg S l = 24) ∧ Q (.inl (some (vI (J l 2)))) S J) :
    V w 0 mJ2_size 0 (ent mJ2_size [vR l]) [] S J Q := by
  show V w 0 mJ2_size 0 [some (vR l)] [] S J Q
  refine v_shp (fun hs0 => ?_)
  refine v_aload_n dJ2_size_0 rfl ?_
  obtain ⟨o1, K⟩ := K
  refine v_getI dJ2_size_1 frJ2_48_24 rfl rfl o1 ?_
  exact v_iret dJ2_size_4 rfl rfl K
theorem gJ13_checkIndex_0 {w : Wd} {S : Sh} {J : Jm} {Q : Out → Sh → Jm → Prop} (hL : Lay S) (i : Nat) (n : Int)
    (K : (0 ≤ ((i : Nat) : Int) ∧ ((i : Nat) : Int) < n) ∧ Q (.inl (some (vI ((i : Nat) : Int)))) S J) :
    V w 1 mJ13_checkIndex 0 (ent mJ13_checkIndex [vI ((i : Nat) : Int), vI n]) [] S J Q := by
  show V w 1 mJ13_checkIndex 0 [some (vI ((i : Nat) : Int)), some (vI n)] [] S J Q
  refine v_shp (fun hs0 => ?_)
  refine v_iload_n dJ13_checkIndex_0 rfl ?_
  refine v_iload_n dJ13_checkIndex_1 rfl ?_
  refine v_null dJ13_checkIndex_2 ?_
  refine v_callS (d' := 0) (rest := []) [vI ((i : Nat) : Int), vI n, vN] dJ13_checkIndex_3 srJ13_105 rfl (one_I (one_I (one_O one_nil))) (Nat.le_of_ble_eq_true rfl) (Nat.le_of_ble_eq_true rfl) (Nat.le_of_ble_eq_true rfl) ?_
  obtain ⟨o1, K⟩ := K
  refine s_pcheck hL ((i : Nat) : Int) n none o1 ?_
  show V w 1 mJ13_checkIndex 6 [some (vI ((i : Nat) : Int)), some (vI n)] [vI ((i : Nat) : Int)] S J Q
  exact v_iret dJ13_checkIndex_6 rfl rfl K
theorem gJ9_newLength_0 {w : Wd} {S : Sh} {J : Jm} {Q : Out → Sh → Jm → Prop} (hL : Lay S) (a : Nat) (b : Nat) (c : Nat)
    (K : (-2147483648 ≤ ((a : Nat) : Int) + (zmax ((b : Nat) : Int) ((c : Nat) : Int)) ∧ ((a : Nat) : Int) + (zmax ((b : Nat) : Int) ((c : Nat) : Int)) ≤ 2147483647) ∧ Br (((a : Nat) : Int) + (zmax ((b : Nat) : Int) ((c : Nat) : Int)) ≤ 0) (False) (Br (2147483639 < ((a : Nat) : Int) + (zmax ((b : Nat) : Int) ((c : Nat) : Int))) (False) (Q (.inl (some (vI (((a : Nat) : Int) + (zmax ((b : Nat) : Int) ((c : Nat) : Int)))))) S J))) :
    V w 1 mJ9_newLength 0 (ent mJ9_newLength [vI ((a : Nat) : Int), vI ((b : Nat) : Int), vI ((c : Nat) : Int)]) [] S J Q := by
  show V w 1 mJ9_newLength 0 [some (vI ((a : Nat) : Int)), some (vI ((b : Nat) : Int)), some (vI ((c : Nat) : Int)), none] [] S J Q
  refine v_shp (fun hs0 => ?_)
  refine v_iload_n dJ9_newLength_0 rfl ?_
  refine v_iload_n dJ9_newLength_1 rfl ?_
  refine v_iload_n dJ9_newLength_2 rfl ?_
  refine v_callS (d' := 0) (rest := [vI ((a : Nat) : Int)]) [vI ((b : Nat) : Int), vI ((c : Nat) : Int)] dJ9_newLength_3 srJ9_194 rfl (one_I (one_I one_nil)) (Nat.le_of_ble_eq_true rfl) (Nat.le_of_ble_eq_true rfl) (Nat.le_of_ble_eq_true rfl) ?_
  refine s_max hL ((b : Nat) : Int) ((c : Nat) : Int)  ?_
  show V w 1 mJ9_newLength 6 [some (vI ((a : Nat) : Int)), some (vI ((b : Nat) : Int)), some (vI ((c : Nat) : Int)), none] [vI (zmax ((b : Nat) : Int) ((c : Nat) : Int)), vI ((a : Nat) : Int)] S J Q
  obtain ⟨o1, K⟩ := K
  refine v_iadd dJ9_newLength_6 o1 ?_
  refine v_istore_n dJ9_newLength_7 (Nat.le_of_ble_eq_true rfl) ?_
  show V w 1 mJ9_newLength 8 [some (vI ((a : Nat) : Int)), some (vI ((b : Nat) : Int)), some (vI ((c : Nat) : Int)), some (vI (((a : Nat) : Int) + (zmax ((b : Nat) : Int) ((c : Nat) : Int))))] [] S J Q
  refine v_iconst dJ9_newLength_8 (in_lit (by decide)) ?_
  refine v_iload_n dJ9_newLength_9 rfl ?_
  obtain ⟨K1, K2⟩ := K
  refine v_icmp_ge 21 dJ9_newLength_10 (by decide) (fun c1 => ?_) (fun c1 => ?_)
  · have K := K1 c1
    refine v_iload_n dJ9_newLength_21 rfl ?_
    refine v_iload_n dJ9_newLength_22 rfl ?_
    exact False.elim K
  · have K := K2 c1
    refine v_iload_n dJ9_newLength_13 rfl ?_
    refine v_ldc dJ9_newLength_14 q719 (z := 2147483639) (by decide) ?_
    obtain ⟨K1, K2⟩ := K
    refine v_icmp_gt 21 dJ9_newLength_16 (by decide) (fun c2 => ?_) (fun c2 => ?_)
    · have K := K1 c2
      refine v_iload_n dJ9_newLength_21 rfl ?_
      refine v_iload_n dJ9_newLength_22 rfl ?_
      exact False.elim K
    · have K := K2 c2
      refine v_iload_n dJ9_newLength_19 rfl ?_
      exact v_iret dJ9_newLength_20 rfl rfl K
theorem gJ11_copyOf_2_0 {w : Wd} {S : Sh} {J : Jm} {Q : Out → Sh → Jm → Prop} (hL : Lay S) (a : Nat) (n : Nat)
    (K : (n * 8 ≤ 536870912) ∧ (Sh.n S + 1 ≤ capN) ∧ (Sh.sl S + n ≤ capS) ∧ ∀ (S1 : Sh) (p1 : Nat), p1 = Sh.n S → S1 = alS S 37 n n → (∀ k, J p1 k = 0) → (∀ k, Sh.rf S p1 k = none) → (Sh.tg S a = 37) ∧ (0 ≤ zmin ((Sh.ln S a : Nat) : Int) ((n : Nat) : Int)) ∧ (0 + zmin ((Sh.ln S a : Nat) : Int) ((n : Nat) : Int) ≤ ((Sh.ln S a : Nat) : Int)) ∧ (0 + zmin ((Sh.ln S a : Nat) : Int) ((n : Nat) : Int) ≤ ((n : Nat) : Int)) ∧ (∀ i r, i < (zmin ((Sh.ln S a : Nat) : Int) ((n : Nat) : Int)).toNat → Sh.rf S1 a (0 + i) = some r → objT (Sh.tg S1 r)) ∧ ∀ (S2 : Sh), S2 = cpS S1 a 0 p1 0 (zmin ((Sh.ln S a : Nat) : Int) ((n : Nat) : Int)).toNat → Q (.inl (some (vR p1))) S2 J) :
    V w 1 mJ11_copyOf_2 0 (ent mJ11_copyOf_2 [vR a, vI ((n : Nat) : Int), vR 55]) [] S J Q := by
  show V w 1 mJ11_copyOf_2 0 [some (vR a), some (vI ((n : Nat) : Int)), some (vR 55), none] [] S J Q
  refine v_shp (fun hs0 => ?_)
  refine v_aload_n dJ11_copyOf_2_0 rfl ?_
  refine v_ldcM dJ11_copyOf_2_1 q754 ?_
  refine v_acmpS (tgt := 13) dJ11_copyOf_2_3 (by decide) ?_
  refine v_iload_n dJ11_copyOf_2_6 rfl ?_
  obtain ⟨o1, K⟩ := K
  obtain ⟨o2, K⟩ := K
  obtain ⟨o3, K⟩ := K
  have hnn : (((n : Nat) : Int)).toNat = n := Int.toNat_natCast _
  refine v_anewO (t := 37) dJ11_copyOf_2_7 q755 q148 rfl (by decide) (by omega) (by have := o1; omega) o2 o3 (fun z1 y1 => ?_)
  rw [hnn]
  have hLn : Lay (alS S 37 n n) := lay_al hL
  have tp1 : Sh.tg (alS S 37 n n) (Sh.n S) = 37 := alS_tg_self
  have lp1 : ((Sh.ln (alS S 37 n n) (Sh.n S) : Nat) : Int) = ((n : Nat) : Int) := nci alS_ln_self
  have xp1 : Ex S (alS S 37 n n) := Ex.al
  have ge1 : 365 ≤ Sh.n S := hL.1
  obtain ⟨S1, eS1⟩ : ∃ X, X = alS S 37 n n := ⟨_, rfl⟩
  obtain ⟨p1, ep1⟩ : ∃ X, X = Sh.n S := ⟨_, rfl⟩
  rw [← eS1] at hLn tp1 lp1 xp1 ⊢
  rw [← ep1] at tp1 lp1 ge1 z1 y1
  have hL := hLn; clear hLn
  have K := K S1 p1 ep1 eS1 z1 y1
  show V w 1 mJ11_copyOf_2 10 [some (vR a), some (vI ((n : Nat) : Int)), some (vR 55), none] (vR (Sh.n S) :: _) S1 J Q
  rw [← ep1]
  refine v_shp (fun hsS1 => ?_)
  show V w 1 mJ11_copyOf_2 10 [some (vR a), some (vI ((n : Nat) : Int)), some (vR 55), none] [vR p1] S1 J Q
  refine v_goto 24 dJ11_copyOf_2_10 (by decide) ?_
  refine v_astore_n dJ11_copyOf_2_24 (Nat.le_of_ble_eq_true rfl) ?_
  show V w 1 mJ11_copyOf_2 25 [some (vR a), some (vI ((n : Nat) : Int)), some (vR 55), some (vR p1)] [] S1 J Q
  refine v_aload_n dJ11_copyOf_2_25 rfl ?_
  refine v_iconst dJ11_copyOf_2_26 (in_lit (by decide)) ?_
  refine v_aload_n dJ11_copyOf_2_27 rfl ?_
  refine v_iconst dJ11_copyOf_2_28 (in_lit (by decide)) ?_
  refine v_aload_n dJ11_copyOf_2_29 rfl ?_
  obtain ⟨o4, K⟩ := K
  refine v_alen dJ11_copyOf_2_30 (by rw [(Ex.tg xp1 hs0 o4 (by decide))]; rfl) ?_
  rw [(nci (Ex.ln xp1 hs0 o4 (by decide)))]
  show V w 1 mJ11_copyOf_2 31 [some (vR a), some (vI ((n : Nat) : Int)), some (vR 55), some (vR p1)] [vI ((Sh.ln S a : Nat) : Int), vI 0, vR p1, vI 0, vR a] S1 J Q
  refine v_iload_n dJ11_copyOf_2_31 rfl ?_
  refine v_callS (d' := 0) (rest := [vI 0, vR p1, vI 0, vR a]) [vI ((Sh.ln S a : Nat) : Int), vI ((n : Nat) : Int)] dJ11_copyOf_2_32 srJ11_304 rfl (one_I (one_I one_nil)) (Nat.le_of_ble_eq_true rfl) (Nat.le_of_ble_eq_true rfl) (Nat.le_of_ble_eq_true rfl) ?_
  refine s_min hL ((Sh.ln S a : Nat) : Int) ((n : Nat) : Int)  ?_
  show V w 1 mJ11_copyOf_2 35 [some (vR a), some (vI ((n : Nat) : Int)), some (vR 55), some (vR p1)] [vI (zmin ((Sh.ln S a : Nat) : Int) ((n : Nat) : Int)), vI 0, vR p1, vI 0, vR a] S1 J Q
  obtain ⟨o5, K⟩ := K
  obtain ⟨o6, K⟩ := K
  obtain ⟨o7, K⟩ := K
  obtain ⟨o8, K⟩ := K
  refine v_acopyO dJ11_copyOf_2_35 q759 (Ex.tg xp1 hs0 o4 (by decide)) tp1 (by decide) (by decide) o5 (by rw [(nci (Ex.ln xp1 hs0 o4 (by decide)))]; exact o6) (by rw [lp1]; exact o7) (Nat.le_of_ble_eq_true rfl) (Nat.le_of_ble_eq_true rfl) o8 ?_
  show V w 1 mJ11_copyOf_2 38 [some (vR a), some (vI ((n : Nat) : Int)), some (vR 55), some (vR p1)] [] (cpS S1 a 0 p1 0 (zmin ((Sh.ln S a : Nat) : Int) ((n : Nat) : Int)).toNat) J Q
  have hLn : Lay (cpS S1 a 0 p1 0 (zmin ((Sh.ln S a : Nat) : Int) ((n : Nat) : Int)).toNat) := lay_cp hL tp1
  obtain ⟨S2, eS2⟩ : ∃ X, X = cpS S1 a 0 p1 0 (zmin ((Sh.ln S a : Nat) : Int) ((n : Nat) : Int)).toNat := ⟨_, rfl⟩
  rw [← eS2] at hLn ⊢
  have hL := hLn; clear hLn
  have K := K S2 eS2
  have xS2 : Ex S1 S2 := by rw [eS2]; exact Ex.cp
  refine v_shp (fun hsS2 => ?_)
  show V w 1 mJ11_copyOf_2 38 [some (vR a), some (vI ((n : Nat) : Int)), some (vR 55), some (vR p1)] [] S2 J Q
  refine v_aload_n dJ11_copyOf_2_38 rfl ?_
  exact v_aret dJ11_copyOf_2_39 rfl rfl K

theorem s_oci {w : Wd} {S : Sh} {J : Jm} {Q : Out → Sh → Jm → Prop} (hL : Lay S) (i n : Int) (h : 0 ≤ i ∧ i < n) (K : Q (.inl (some (vI i))) S J) : V w 1 mJ13_checkIndex 0 (ent mJ13_checkIndex [vI i, vI n]) [] S J Q := by
  obtain ⟨i, rfl⟩ : ∃ m : Nat, i = m := ⟨i.toNat, by omega⟩
  exact gJ13_checkIndex_0 hL i n ⟨h, K⟩
theorem s_newLength {w : Wd} {S : Sh} {J : Jm} {Q : Out → Sh → Jm → Prop} (hL : Lay S) (a b c : Int) (ha : 0 ≤ a ∧ a ≤ 100) (hb : 1 ≤ b ∧ b ≤ 100) (hc : 0 ≤ c ∧ c ≤ 100) (K : Q (.inl (some (vI (a + zmax b c)))) S J) : V w 1 mJ9_newLength 0 (ent mJ9_newLength [vI a, vI b, vI c]) [] S J Q := by
  have hz : 1 ≤ zmax b c ∧ zmax b c ≤ 100 := by unfold zmax; split <;> omega
  obtain ⟨a, rfl⟩ : ∃ m : Nat, a = m := ⟨a.toNat, by omega⟩
  obtain ⟨b, rfl⟩ : ∃ m : Nat, b = m := ⟨b.toNat, by omega⟩
  obtain ⟨c, rfl⟩ : ∃ m : Nat, c = m := ⟨c.toNat, by omega⟩
  refine gJ9_newLength_0 hL a b c ?_
  revert hz K
  generalize zmax (b : Int) (c : Int) = z
  intro hz K
  refine ⟨by omega, ?_⟩
  exact br_n (by omega) (br_n (by omega) K)
def PCo (S : Sh) (J : Jm) (a n : Nat) (S' : Sh) (J' : Jm) (r : Nat) : Prop := J' = J ∧ r = S.n ∧ S' = cpS (alS S 37 n n) a 0 S.n 0 (S.ln a) ∧ (∀ k, J S.n k = 0) ∧ (∀ k, S.rf S.n k = none)
theorem s_copyOf2 {w : Wd} {S : Sh} {J : Jm} {Q : Out → Sh → Jm → Prop} (hL : Lay S) (a : Nat) (n : Int) (ht : S.tg a = 37) (hn : (S.ln a : Int) ≤ n ∧ n ≤ 200) (ho : ∀ i r, i < S.ln a → S.rf a i = some r → objT (S.tg r)) (c1 : S.n + 1 ≤ capN) (c2 : S.sl + 200 ≤ capS) (K : ∀ S' J' r, Nx 1 200 S S' → PCo S J a n.toNat S' J' r → Q (.inl (some (vR r))) S' J') : V w 1 mJ11_copyOf_2 0 (ent mJ11_copyOf_2 [vR a, vI n, vR 55]) [] S J Q := by
  obtain ⟨n, rfl⟩ : ∃ m : Nat, n = m := ⟨n.toNat, by omega⟩
  have hz : zmin ((S.ln a : Nat) : Int) (n : Int) = ((S.ln a : Nat) : Int) := by unfold zmin; split <;> omega
  refine v_shp (fun hs => ?_)
  refine gJ11_copyOf_2_0 hL a n ?_
  refine ⟨by omega, c1, by omega, fun S1 p1 e1 e2 z1 y1 => ?_⟩
  have hlt := hs.lt ht (by decide)
  have x1 : Ex S S1 := by rw [e2]; exact Ex.al
  have l1 : Lay S1 := by rw [e2]; exact lay_al hL
  have tp : Sh.tg S1 p1 = 37 := by rw [e1, e2]; exact alS_tg_self
  rw [hz, Int.toNat_natCast]
  refine ⟨ht, by omega, by omega, by omega, fun i r hi hr => ?_, fun S2 e3 => ?_⟩
  · rw [Nat.zero_add] at hr
    have h1 : S.rf a i = some r := by rw [e2] at hr; exact hr
    have h2 := ho i r hi h1
    obtain ⟨C, T0, N, h3, h4⟩ := h2
    have hr0 : S.tg r ≠ 0 := fun e => by rw [e] at h3; cases h3
    rw [(x1.2.2 r (hs.lt rfl hr0)).1]
    exact ⟨C, T0, N, h3, h4⟩
  · subst e1
    rw [e2] at e3
    refine K S2 J (Sh.n S) ⟨?_, ?_, ?_, ?_⟩ ⟨rfl, rfl, e3, z1, y1⟩
    · rw [e3, ← e2]; exact lay_cp l1 tp
    · rw [e3, ← e2]; exact x1.trans Ex.cp
    · rw [e3]; exact Nat.le_refl _
    · rw [e3]; show S.sl + n ≤ _; omega

theorem s_copyOf2w {w : Wd} {S : Sh} {J : Jm} {Q : Out → Sh → Jm → Prop} (hL : Lay S) (a : Nat) (n : Int) (b : Nat) (hb : b = 55) (ht : S.tg a = 37) (hn : (S.ln a : Int) ≤ n ∧ n ≤ 200) (ho : ∀ i r, i < S.ln a → S.rf a i = some r → objT (S.tg r)) (c1 : S.n + 1 ≤ capN) (c2 : S.sl + 200 ≤ capS) (K : ∀ S' J' r, Nx 1 200 S S' → PCo S J a n.toNat S' J' r → Q (.inl (some (vR r))) S' J') : V w 1 mJ11_copyOf_2 0 (ent mJ11_copyOf_2 [vR a, vI n, vR b]) [] S J Q := by
  subst hb
  exact s_copyOf2 hL a n ht hn ho c1 c2 K
theorem gJ11_copyOf_0 {w : Wd} {S : Sh} {J : Jm} {Q : Out → Sh → Jm → Prop} (hL : Lay S) (a : Nat) (n : Int)
    (K : (Sh.tg S a = 37) ∧ (55 = 55) ∧ (((Sh.ln S a : Nat) : Int) ≤ n ∧ n ≤ 200) ∧ (∀ i r, i < Sh.ln S a → Sh.rf S a i = some r → objT (Sh.tg S r)) ∧ (Sh.n S + 1 ≤ capN) ∧ (Sh.sl S + 200 ≤ capS) ∧ (∀ (S1 : Sh) (J1 : Jm) (r1n : Nat), Nx 1 200 S S1 → PCo S J a (n).toNat S1 J1 r1n → Q (.inl (some (vR r1n))) S1 J1)) :
    V w 2 mJ11_copyOf 0 (ent mJ11_copyOf [vR a, vI n]) [] S J Q := by
  show V w 2 mJ11_copyOf 0 [some (vR a), some (vI n)] [] S J Q
  refine v_shp (fun hs0 => ?_)
  refine v_aload_n dJ11_copyOf_0 rfl ?_
  refine v_iload_n dJ11_copyOf_1 rfl ?_
  refine v_aload_n dJ11_copyOf_2 rfl ?_
  obtain ⟨o1, K⟩ := K
  refine v_getC dJ11_copyOf_3 q726 o1 (Nat.le_of_ble_eq_true rfl) (Nat.le_of_ble_eq_true rfl) ?_
  refine v_callS (d' := 1) (rest := []) [vR a, vI n, vR 55] dJ11_copyOf_6 srJ11_300 rfl (one_O (one_I (one_O one_nil))) (Nat.le_of_ble_eq_true rfl) (Nat.le_of_ble_eq_true rfl) (Nat.le_of_ble_eq_true rfl) ?_
  obtain ⟨o2, K⟩ := K
  obtain ⟨o3, K⟩ := K
  obtain ⟨o4, K⟩ := K
  obtain ⟨o5, K⟩ := K
  obtain ⟨o6, K⟩ := K
  refine s_copyOf2w hL a n 55 o2 o1 o3 o4 o5 o6 (fun S1 J1 r1n hx1 hp => ?_)
  have K := K S1 J1 r1n hx1 hp
  have hL := hx1.1
  have xS1 := hx1.2.1
  show V w 2 mJ11_copyOf 9 [some (vR a), some (vI n)] [vR r1n] S1 J1 Q
  refine v_shp (fun hsS1 => ?_)
  exact v_aret dJ11_copyOf_9 rfl rfl K

theorem s_copyOf {w : Wd} {S : Sh} {J : Jm} {Q : Out → Sh → Jm → Prop} (hL : Lay S) (a : Nat) (n : Int) (ht : S.tg a = 37) (hn : (S.ln a : Int) ≤ n ∧ n ≤ 200) (ho : ∀ i r, i < S.ln a → S.rf a i = some r → objT (S.tg r)) (c1 : S.n + 1 ≤ capN) (c2 : S.sl + 200 ≤ capS) (K : ∀ S' J' r, Nx 1 200 S S' → PCo S J a n.toNat S' J' r → Q (.inl (some (vR r))) S' J') : V w 2 mJ11_copyOf 0 (ent mJ11_copyOf [vR a, vI n]) [] S J Q :=
  gJ11_copyOf_0 hL a n ⟨ht, rfl, hn, ho, c1, c2, fun S1 J1 r hx hp => K S1 J1 r hx hp⟩
theorem gJ2_grow_2_0 {w : Wd} {S : Sh} {J : Jm} {Q : Out → Sh → Jm → Prop} (hL : Lay S) (l : Nat) (m : Int)
    (K : (Sh.tg S l = 24) ∧ ∃ r2 : Nat, Sh.rf S l 1 = some r2 ∧ (Sh.tg S r2 = 37) ∧ Br (0 < ((Sh.ln S r2 : Nat) : Int)) ((-2147483648 ≤ m - ((Sh.ln S r2 : Nat) : Int) ∧ m - ((Sh.ln S r2 : Nat) : Int) ≤ 2147483647) ∧ (0 ≤ ((Sh.ln S r2 : Nat) : Int) ∧ ((Sh.ln S r2 : Nat) : Int) ≤ 100) ∧ (1 ≤ (m - ((Sh.ln S r2 : Nat) : Int)) ∧ (m - ((Sh.ln S r2 : Nat) : Int)) ≤ 100) ∧ (0 ≤ (zshr ((Sh.ln S r2 : Nat) : Int) 1) ∧ (zshr ((Sh.ln S r2 : Nat) : Int) 1) ≤ 100) ∧ ∃ r8 : Nat, Sh.rf S l 1 = some r8 ∧ (Sh.tg S r8 = 37) ∧ (((Sh.ln S r8 : Nat) : Int) ≤ (((Sh.ln S r2 : Nat) : Int) + zmax (m - ((Sh.ln S r2 : Nat) : Int)) (zshr ((Sh.ln S r2 : Nat) : Int) 1)) ∧ (((Sh.ln S r2 : Nat) : Int) + zmax (m - ((Sh.ln S r2 : Nat) : Int)) (zshr ((Sh.ln S r2 : Nat) : Int) 1)) ≤ 200) ∧ (∀ i r, i < Sh.ln S r8 → Sh.rf S r8 i = some r → objT (Sh.tg S r)) ∧ (Sh.n S + 1 ≤ capN) ∧ (Sh.sl S + 200 ≤ capS) ∧ (∀ (S1 : Sh) (J1 : Jm) (r1n : Nat), Nx 1 200 S S1 → PCo S J r8 ((((Sh.ln S r2 : Nat) : Int) + zmax (m - ((Sh.ln S r2 : Nat) : Int)) (zshr ((Sh.ln S r2 : Nat) : Int) 1))).toNat S1 J1 r1n → ∀ (S2 : Sh), S2 = upR S1 l 1 (some r1n) → Q (.inl (some (vR r1n))) S2 J1)) (∃ r14 : Nat, Sh.rf S l 1 = some r14 ∧ False)) :
    V w 3 mJ2_grow_2 0 (ent mJ2_grow_2 [vR l, vI m]) [] S J Q := by
  show V w 3 mJ2_grow_2 0 [some (vR l), some (vI m), none, none] [] S J Q
  refine v_shp (fun hs0 => ?_)
  refine v_aload_n dJ2_grow_2_0 rfl ?_
  obtain ⟨o1, K⟩ := K
  obtain ⟨r2, er2, K⟩ := K
  refine v_getR dJ2_grow_2_1 frJ2_9_24 rfl o1 er2 (Or.inr (fun q => by cases q)) ?_
  obtain ⟨o3, K⟩ := K
  refine v_alen dJ2_grow_2_4 (by rw [o3]; rfl) ?_
  show V w 3 mJ2_grow_2 5 [some (vR l), some (vI m), none, none] [vI ((Sh.ln S r2 : Nat) : Int)] S J Q
  refine v_istore_n dJ2_grow_2_5 (Nat.le_of_ble_eq_true rfl) ?_
  show V w 3 mJ2_grow_2 6 [some (vR l), some (vI m), some (vI ((Sh.ln S r2 : Nat) : Int)), none] [] S J Q
  refine v_iload_n dJ2_grow_2_6 rfl ?_
  obtain ⟨K1, K2⟩ := K
  refine v_if_gt 20 dJ2_grow_2_7 (by decide) (fun c1 => ?_) (fun c1 => ?_)
  · have K := K1 c1
    refine v_iload_n dJ2_grow_2_20 rfl ?_
    refine v_iload_n dJ2_grow_2_21 rfl ?_
    refine v_iload_n dJ2_grow_2_22 rfl ?_
    obtain ⟨o4, K⟩ := K
    refine v_isub dJ2_grow_2_23 o4 ?_
    refine v_iload_n dJ2_grow_2_24 rfl ?_
    refine v_iconst dJ2_grow_2_25 (in_lit (by decide)) ?_
    refine v_ishr dJ2_grow_2_26 ?_
    refine v_callS (d' := 1) (rest := []) [vI ((Sh.ln S r2 : Nat) : Int), vI (m - ((Sh.ln S r2 : Nat) : Int)), vI (zshr ((Sh.ln S r2 : Nat) : Int) 1)] dJ2_grow_2_27 srJ2_73 rfl (one_I (one_I (one_I one_nil))) (Nat.le_of_ble_eq_true rfl) (Nat.le_of_ble_eq_true rfl) (Nat.le_of_ble_eq_true rfl) ?_
    obtain ⟨o5, K⟩ := K
    obtain ⟨o6, K⟩ := K
    obtain ⟨o7, K⟩ := K
    refine s_newLength hL ((Sh.ln S r2 : Nat) : Int) (m - ((Sh.ln S r2 : Nat) : Int)) (zshr ((Sh.ln S r2 : Nat) : Int) 1) o5 o6 o7 ?_
    show V w 3 mJ2_grow_2 30 [some (vR l), some (vI m), some (vI ((Sh.ln S r2 : Nat) : Int)), none] [vI (((Sh.ln S r2 : Nat) : Int) + zmax (m - ((Sh.ln S r2 : Nat) : Int)) (zshr ((Sh.ln S r2 : Nat) : Int) 1))] S J Q
    refine v_istore_n dJ2_grow_2_30 (Nat.le_of_ble_eq_true rfl) ?_
    show V w 3 mJ2_grow_2 31 [some (vR l), some (vI m), some (vI ((Sh.ln S r2 : Nat) : Int)), some (vI (((Sh.ln S r2 : Nat) : Int) + zmax (m - ((Sh.ln S r2 : Nat) : Int)) (zshr ((Sh.ln S r2 : Nat) : Int) 1)))] [] S J Q
    refine v_aload_n dJ2_grow_2_31 rfl ?_
    refine v_aload_n dJ2_grow_2_32 rfl ?_
    obtain ⟨r8, er8, K⟩ := K
    refine v_getR dJ2_grow_2_33 frJ2_9_24 rfl o1 er8 (Or.inr (fun q => by cases q)) ?_
    refine v_iload_n dJ2_grow_2_36 rfl ?_
    refine v_callS (d' := 2) (rest := [vR l]) [vR r8, vI (((Sh.ln S r2 : Nat) : Int) + zmax (m - ((Sh.ln S r2 : Nat) : Int)) (zshr ((Sh.ln S r2 : Nat) : Int) 1))] dJ2_grow_2_37 srJ2_66 rfl (one_O (one_I one_nil)) (Nat.le_of_ble_eq_true rfl) (Nat.le_of_ble_eq_true rfl) (Nat.le_of_ble_eq_true rfl) ?_
    obtain ⟨o9, K⟩ := K
    obtain ⟨o10, K⟩ := K
    obtain ⟨o11, K⟩ := K
    obtain ⟨o12, K⟩ := K
    obtain ⟨o13, K⟩ := K
    refine s_copyOf hL r8 (((Sh.ln S r2 : Nat) : Int) + zmax (m - ((Sh.ln S r2 : Nat) : Int)) (zshr ((Sh.ln S r2 : Nat) : Int) 1)) o9 o10 o11 o12 o13 (fun S1 J1 r1n hx1 hp => ?_)
    have K := K S1 J1 r1n hx1 hp
    have hL := hx1.1
    have xS1 := hx1.2.1
    show V w 3 mJ2_grow_2 40 [some (vR l), some (vI m), some (vI ((Sh.ln S r2 : Nat) : Int)), some (vI (((Sh.ln S r2 : Nat) : Int) + zmax (m - ((Sh.ln S r2 : Nat) : Int)) (zshr ((Sh.ln S r2 : Nat) : Int) 1)))] [vR r1n, vR l] S1 J1 Q
    refine v_shp (fun hsS1 => ?_)
    refine v_dup_x1 dJ2_grow_2_40 trivial trivial ?_
    refine v_putR dJ2_grow_2_41 frJ2_9_24 (fun _ _ _ h => by cases h; exact Or.inl rfl) rfl (Ex.tg xS1 hs0 o1 (by decide)) (fun q => by cases q) ?_
    have hLn : Lay (upR S1 l 1 (some r1n)) := lay_tg hL (Ex.tg xS1 hs0 o1 (by decide)) rfl
    obtain ⟨S2, eS2⟩ : ∃ X, X = upR S1 l 1 (some r1n) := ⟨_, rfl⟩
    rw [← eS2] at hLn ⊢
    have hL := hLn; clear hLn
    have K := K S2 eS2
    have xS2 : Ex S1 S2 := by rw [eS2]; exact Ex.up
    refine v_shp (fun hsS2 => ?_)
    show V w 3 mJ2_grow_2 44 [some (vR l), some (vI m), some (vI ((Sh.ln S r2 : Nat) : Int)), some (vI (((Sh.ln S r2 : Nat) : Int) + zmax (m - ((Sh.ln S r2 : Nat) : Int)) (zshr ((Sh.ln S r2 : Nat) : Int) 1)))] [vR r1n] S2 J1 Q
    exact v_aret dJ2_grow_2_44 rfl rfl K
  · have K := K2 c1
    refine v_aload_n dJ2_grow_2_10 rfl ?_
    obtain ⟨r14, er14, K⟩ := K
    refine v_getR dJ2_grow_2_11 frJ2_9_24 rfl o1 er14 (Or.inr (fun q => by cases q)) ?_
    exact False.elim K

theorem zshr1 : ∀ c : Nat, c < 128 → zshr (c : Int) 1 = ((c / 2 : Nat) : Int) := by decide +kernel
/-- a list's row has grown -/
def PGr (S : Sh) (J : Jm) (l A : Nat) (S' : Sh) (J' : Jm) (r : Nat) : Prop := J' = J ∧ r = S.n ∧ (∃ n, S.ln A < n ∧ n ≤ 200 ∧ S' = upR (cpS (alS S 37 n n) A 0 S.n 0 (S.ln A)) l 1 (some S.n)) ∧ (∀ k, J S.n k = 0) ∧ (∀ k, S.rf S.n k = none)
theorem s_grow2 {w : Wd} {S : Sh} {J : Jm} {Q : Out → Sh → Jm → Prop} (hL : Lay S) (l A : Nat) (m : Int) (hl : S.tg l = 24) (hA : S.rf l 1 = some A) (ht : S.tg A = 37) (h1 : 1 ≤ S.ln A ∧ S.ln A ≤ 60) (hm : m = (S.ln A : Int) + 1) (ho : ∀ i r, i < S.ln A → S.rf A i = some r → objT (S.tg r)) (c1 : S.n + 1 ≤ capN) (c2 : S.sl + 200 ≤ capS) (K : ∀ S' J' r, Nx 1 200 S S' → PGr S J l A S' J' r → Q (.inl (some (vR r))) S' J') : V w 3 mJ2_grow_2 0 (ent mJ2_grow_2 [vR l, vI m]) [] S J Q := by
  have hz := zshr1 (S.ln A) (by omega)
  have hx : ∃ n : Nat, S.ln A < n ∧ n ≤ 200 ∧ ((S.ln A : Int) + zmax (m - (S.ln A : Int)) (zshr (S.ln A : Int) 1)) = (n : Int) := by
    rw [hz, hm]
    have : ((S.ln A : Int) + 1 - (S.ln A : Int)) = 1 := by omega
    rw [this]
    refine ⟨S.ln A + (if 1 ≤ S.ln A / 2 then S.ln A / 2 else 1), ?_, ?_, ?_⟩
    · split <;> omega
    · split <;> omega
    · unfold zmax
      split <;> split <;> omega
  obtain ⟨n, n1, n2, en⟩ := hx
  have hm2 : m - (S.ln A : Int) = 1 := by omega
  refine v_shp (fun hs => ?_)
  refine gJ2_grow_2_0 hL l m ?_
  refine ⟨hl, A, hA, ht, ?_⟩
  refine br_y (by omega) ?_
  rw [en]
  refine ⟨by omega, ⟨by omega, by omega⟩, ⟨by omega, by omega⟩, ⟨by rw [hz]; omega, by rw [hz]; omega⟩, A, hA, ht, ⟨by omega, by omega⟩, ho, c1, c2, fun S1 J1 r hx hp S2 e2 => ?_⟩
  obtain ⟨p1, p2, p3, p4, p5⟩ := hp
  rw [Int.toNat_natCast] at p3
  subst p2
  have hl1 : S1.tg l = 24 := hx.2.1.tg hs hl (by decide)
  refine K S2 J1 _ ⟨by rw [e2]; exact lay_tg hx.1 hl1 rfl, by rw [e2]; exact hx.2.1.trans Ex.up, by rw [e2]; exact hx.2.2.1, by rw [e2]; exact hx.2.2.2⟩ ⟨p1, rfl, ⟨n, n1, n2, by rw [e2, p3]⟩, p4, p5⟩
theorem gJ2_grow_0 {w : Wd} {S : Sh} {J : Jm} {Q : Out → Sh → Jm → Prop} (hL : Lay S) (l : Nat)
    (K : (Sh.tg S l = 24) ∧ (-2147483648 ≤ (J l 2) + 1 ∧ (J l 2) + 1 ≤ 2147483647) ∧ V w 3 mJ2_grow_2 0 (ent mJ2_grow_2 [vR l, vI ((J l 2) + 1)]) [] S J (CallQ w 4 mJ2_grow 7 [some (vR l)] [] Q)) :
    V w 4 mJ2_grow 0 (ent mJ2_grow [vR l]) [] S J Q := by
  show V w 4 mJ2_grow 0 [some (vR l)] [] S J Q
  refine v_shp (fun hs0 => ?_)
  refine v_aload_n dJ2_grow_0 rfl ?_
  refine v_aload_n dJ2_grow_1 rfl ?_
  obtain ⟨o1, K⟩ := K
  refine v_getI dJ2_grow_2 frJ2_48_24 rfl rfl o1 ?_
  refine v_iconst dJ2_grow_5 (in_lit (by decide)) ?_
  obtain ⟨o2, K⟩ := K
  refine v_iadd dJ2_grow_6 o2 ?_
  refine v_callV (d' := 3) (rest := []) [vI ((J l 2) + 1)] dJ2_grow_7 vrJ2_69_24 o1 rfl rfl (one_I one_nil) (Nat.le_of_ble_eq_true rfl) (Nat.le_of_ble_eq_true rfl) (Nat.le_of_ble_eq_true rfl) ?_
  exact K
theorem gJ2_elementData_0 {w : Wd} {S : Sh} {J : Jm} {Q : Out → Sh → Jm → Prop} (hL : Lay S) (l : Nat) (i : Nat)
    (K : (Sh.tg S l = 24) ∧ ∃ r2 : Nat, Sh.rf S l 1 = some r2 ∧ (Sh.tg S r2 = 37) ∧ (((i : Nat) : Int) < ((Sh.ln S r2 : Nat) : Int)) ∧ ∃ r5 : Nat, Sh.rf S r2 i = some r5 ∧ Q (.inl (some (vR r5))) S J) :
    V w 0 mJ2_elementData 0 (ent mJ2_elementData [vR l, vI ((i : Nat) : Int)]) [] S J Q := by
  show V w 0 mJ2_elementData 0 [some (vR l), some (vI ((i : Nat) : Int))] [] S J Q
  refine v_shp (fun hs0 => ?_)
  refine v_aload_n dJ2_elementData_0 rfl ?_
  obtain ⟨o1, K⟩ := K
  obtain ⟨r2, er2, K⟩ := K
  refine v_getR dJ2_elementData_1 frJ2_9_24 rfl o1 er2 (Or.inr (fun q => by cases q)) ?_
  refine v_iload_n dJ2_elementData_4 rfl ?_
  obtain ⟨o3, K⟩ := K
  obtain ⟨o4, K⟩ := K
  obtain ⟨r5, er5, K⟩ := K
  refine v_aald dJ2_elementData_5 (by rw [o3]; rfl) rfl (by omega) o4 er5 ?_
  show V w 0 mJ2_elementData 6 [some (vR l), some (vI ((i : Nat) : Int))] [vR r5] S J Q
  exact v_aret dJ2_elementData_6 rfl rfl K
theorem gJ2_get_0 {w : Wd} {S : Sh} {J : Jm} {Q : Out → Sh → Jm → Prop} (hL : Lay S) (l : Nat) (i : Nat)
    (K : (Sh.tg S l = 24) ∧ (0 ≤ ((i : Nat) : Int) ∧ ((i : Nat) : Int) < (J l 2)) ∧ V w 0 mJ2_elementData 0 (ent mJ2_elementData [vR l, vI ((i : Nat) : Int)]) [] S J (CallQ w 2 mJ2_get 11 [some (vR l), some (vI ((i : Nat) : Int))] [] Q)) :
    V w 2 mJ2_get 0 (ent mJ2_get [vR l, vI ((i : Nat) : Int)]) [] S J Q := by
  show V w 2 mJ2_get 0 [some (vR l), some (vI ((i : Nat) : Int))] [] S J Q
  refine v_shp (fun hs0 => ?_)
  refine v_iload_n dJ2_get_0 rfl ?_
  refine v_aload_n dJ2_get_1 rfl ?_
  obtain ⟨o1, K⟩ := K
  refine v_getI dJ2_get_2 frJ2_48_24 rfl rfl o1 ?_
  refine v_callS (d' := 1) (rest := []) [vI ((i : Nat) : Int), vI (J l 2)] dJ2_get_5 srJ2_118 rfl (one_I (one_I one_nil)) (Nat.le_of_ble_eq_true rfl) (Nat.le_of_ble_eq_true rfl) (Nat.le_of_ble_eq_true rfl) ?_
  obtain ⟨o2, K⟩ := K
  refine s_oci hL ((i : Nat) : Int) (J l 2) o2 ?_
  show V w 2 mJ2_get 8 [some (vR l), some (vI ((i : Nat) : Int))] [vI ((i : Nat) : Int)] S J Q
  refine v_pop dJ2_get_8 trivial ?_
  refine v_aload_n dJ2_get_9 rfl ?_
  refine v_iload_n dJ2_get_10 rfl ?_
  refine v_callV (d' := 0) (rest := []) [vI ((i : Nat) : Int)] dJ2_get_11 vrJ2_123_24 o1 rfl rfl (one_I one_nil) (Nat.le_of_ble_eq_true rfl) (Nat.le_of_ble_eq_true rfl) (Nat.le_of_ble_eq_true rfl) ?_
  exact K
theorem gJ2_add_2_0 {w : Wd} {S : Sh} {J : Jm} {Q : Out → Sh → Jm → Prop} (hL : Lay S) (l : Nat) (e : Nat) (arr : Nat) (s : Nat)
    (K : (Sh.tg S arr = 37) ∧ Br (((s : Nat) : Int) = ((Sh.ln S arr : Nat) : Int)) ((Sh.tg S l = 24) ∧ V w 4 mJ2_grow 0 (ent mJ2_grow [vR l]) [] S J (CallQ w 5 mJ2_add_2 7 [some (vR l), some (vR e), some (vR arr), some (vI ((s : Nat) : Int))] [] Q)) (V w 5 mJ2_add_2 11 [some (vR l), some (vR e), some (vR arr), some (vI ((s : Nat) : Int))] [] S J Q)) :
    V w 5 mJ2_add_2 0 (ent mJ2_add_2 [vR l, vR e, vR arr, vI ((s : Nat) : Int)]) [] S J Q := by
  show V w 5 mJ2_add_2 0 [some (vR l), some (vR e), some (vR arr), some (vI ((s : Nat) : Int))] [] S J Q
  refine v_shp (fun hs0 => ?_)
  refine v_iload_n dJ2_add_2_0 rfl ?_
  refine v_aload_n dJ2_add_2_1 rfl ?_
  obtain ⟨o1, K⟩ := K
  refine v_alen dJ2_add_2_2 (by rw [o1]; rfl) ?_
  show V w 5 mJ2_add_2 3 [some (vR l), some (vR e), some (vR arr), some (vI ((s : Nat) : Int))] [vI ((Sh.ln S arr : Nat) : Int), vI ((s : Nat) : Int)] S J Q
  obtain ⟨K1, K2⟩ := K
  refine v_icmp_ne 11 dJ2_add_2_3 (by decide) (fun c1 => ?_) (fun c1 => ?_)
  · have K := K2 c1
    exact K
  · have K := K1 c1
    refine v_aload_n dJ2_add_2_6 rfl ?_
    obtain ⟨o2, K⟩ := K
    refine v_callV (d' := 4) (rest := []) [] dJ2_add_2_7 vrJ2_129_24 o2 rfl rfl one_nil (Nat.le_of_ble_eq_true rfl) (Nat.le_of_ble_eq_true rfl) (Nat.le_of_ble_eq_true rfl) ?_
    exact K
theorem gJ2_add_2_11 {w : Wd} {S : Sh} {J : Jm} {Q : Out → Sh → Jm → Prop} (hL : Lay S) (l : Nat) (e : Nat) (arr : Nat) (s : Nat)
    (K : (Sh.tg S arr = 37) ∧ (((s : Nat) : Int) < ((Sh.ln S arr : Nat) : Int)) ∧ (objT (Sh.tg S e)) ∧ ∀ (S1 : Sh), S1 = upR S arr s (some e) → (-2147483648 ≤ ((s : Nat) : Int) + 1 ∧ ((s : Nat) : Int) + 1 ≤ 2147483647) ∧ (Sh.tg S l = 24) ∧ Q (.inl none) S1 (up J l 2 ((s + 1 : Nat) : Int))) :
    V w 5 mJ2_add_2 11 [some (vR l), some (vR e), some (vR arr), some (vI ((s : Nat) : Int))] [] S J Q := by
  refine v_shp (fun hs0 => ?_)
  refine v_aload_n dJ2_add_2_11 rfl ?_
  refine v_iload_n dJ2_add_2_12 rfl ?_
  refine v_aload_n dJ2_add_2_13 rfl ?_
  obtain ⟨o1, K⟩ := K
  obtain ⟨o2, K⟩ := K
  obtain ⟨o3, K⟩ := K
  refine v_aastP dJ2_add_2_14 o1 o3 (by omega) o2 ?_
  show V w 5 mJ2_add_2 15 [some (vR l), some (vR e), some (vR arr), some (vI ((s : Nat) : Int))] [] (upR S arr s (some e)) J Q
  have hLn : Lay (upR S arr s (some e)) := lay_tg hL o1 rfl
  obtain ⟨S1, eS1⟩ : ∃ X, X = upR S arr s (some e) := ⟨_, rfl⟩
  rw [← eS1] at hLn ⊢
  have hL := hLn; clear hLn
  have K := K S1 eS1
  have xS1 : Ex S S1 := by rw [eS1]; exact Ex.up
  refine v_shp (fun hsS1 => ?_)
  show V w 5 mJ2_add_2 15 [some (vR l), some (vR e), some (vR arr), some (vI ((s : Nat) : Int))] [] S1 J Q
  refine v_aload_n dJ2_add_2_15 rfl ?_
  refine v_iload_n dJ2_add_2_16 rfl ?_
  refine v_iconst dJ2_add_2_17 (in_lit (by decide)) ?_
  obtain ⟨o4, K⟩ := K
  refine v_iadd dJ2_add_2_18 o4 ?_
  show V w 5 mJ2_add_2 19 [some (vR l), some (vR e), some (vR arr), some (vI ((s : Nat) : Int))] [vI ((s + 1 : Nat) : Int), vR l] S1 J Q
  obtain ⟨o5, K⟩ := K
  refine v_putI dJ2_add_2_19 frJ2_48_24 (fun _ _ _ h => by cases h; exact Or.inl rfl) rfl rfl zfit_int (Ex.tg xS1 hs0 o5 (by decide)) ?_
  show V w 5 mJ2_add_2 22 [some (vR l), some (vR e), some (vR arr), some (vI ((s : Nat) : Int))] [] S1 (up J l 2 ((s + 1 : Nat) : Int)) Q
  exact v_vret dJ2_add_2_22 rfl K
theorem gJ2_add_2_10 {w : Wd} {S : Sh} {J : Jm} {Q : Out → Sh → Jm → Prop} (hL : Lay S) (l : Nat) (e : Nat) (s : Nat) (q : Nat)
    (K : V w 5 mJ2_add_2 11 [some (vR l), some (vR e), some (vR q), some (vI ((s : Nat) : Int))] [] S J Q) :
    V w 5 mJ2_add_2 10 [some (vR l), some (vR e), none, some (vI ((s : Nat) : Int))] [vR q] S J Q := by
  refine v_shp (fun hs0 => ?_)
  refine v_astore_n dJ2_add_2_10 (Nat.le_of_ble_eq_true rfl) ?_
  show V w 5 mJ2_add_2 11 [some (vR l), some (vR e), some (vR q), some (vI ((s : Nat) : Int))] [] S J Q
  exact K
theorem gJ2_add_0 {w : Wd} {S : Sh} {J : Jm} {Q : Out → Sh → Jm → Prop} (hL : Lay S) (l : Nat) (e : Nat)
    (K : (Sh.tg S l = 24) ∧ (-2147483648 ≤ (J l 0) + 1 ∧ (J l 0) + 1 ≤ 2147483647) ∧ ∃ r3 : Nat, Sh.rf S l 1 = some r3 ∧ V w 5 mJ2_add_2 0 (ent mJ2_add_2 [vR l, vR e, vR r3, vI (J l 2)]) [] S (up J l 0 ((J l 0) + 1)) (CallQ w 6 mJ2_add 20 [some (vR l), some (vR e)] [] Q)) :
    V w 6 mJ2_add 0 (ent mJ2_add [vR l, vR e]) [] S J Q := by
  show V w 6 mJ2_add 0 [some (vR l), some (vR e)] [] S J Q
  refine v_shp (fun hs0 => ?_)
  refine v_aload_n dJ2_add_0 rfl ?_
  refine v_dup dJ2_add_1 trivial ?_
  obtain ⟨o1, K⟩ := K
  refine v_getM dJ2_add_2 frJ2_63_24 rfl rfl o1 ?_
  refine v_iconst dJ2_add_5 (in_lit (by decide)) ?_
  obtain ⟨o2, K⟩ := K
  refine v_iadd dJ2_add_6 o2 ?_
  refine v_putM dJ2_add_7 frJ2_63_24 (fun _ _ _ h => by cases h; rfl) rfl rfl zfit_int o1 ?_
  show V w 6 mJ2_add 10 [some (vR l), some (vR e)] [] S (up J l 0 ((J l 0) + 1)) Q
  refine v_aload_n dJ2_add_10 rfl ?_
  refine v_aload_n dJ2_add_11 rfl ?_
  refine v_aload_n dJ2_add_12 rfl ?_
  obtain ⟨r3, er3, K⟩ := K
  refine v_getR dJ2_add_13 frJ2_9_24 rfl o1 er3 (Or.inr (fun q => by cases q)) ?_
  refine v_aload_n dJ2_add_16 rfl ?_
  refine v_getI dJ2_add_17 frJ2_48_24 rfl rfl o1 ?_
  rw [show (up J l 0 ((J l 0) + 1)) l 2 = J l 2 from up_nk (by decide)]
  show V w 6 mJ2_add 20 [some (vR l), some (vR e)] [vI (J l 2), vR r3, vR e, vR l] S (up J l 0 ((J l 0) + 1)) Q
  refine v_callV (d' := 5) (rest := []) [vR e, vR r3, vI (J l 2)] dJ2_add_20 vrJ2_131_24 o1 rfl rfl (one_O (one_O (one_I one_nil))) (Nat.le_of_ble_eq_true rfl) (Nat.le_of_ble_eq_true rfl) (Nat.le_of_ble_eq_true rfl) ?_
  exact K

/-- a list of ours: its elements, one after the other -/
def LsAt (S : Sh) (J : Jm) (l : Nat) (es : List Nat) : Prop := S.tg l = 24 ∧ J l 0 = es.length ∧ J l 2 = es.length ∧ ∃ A, S.rf l 1 = some A ∧ S.tg A = 37 ∧ 1 ≤ S.ln A ∧ es.length ≤ S.ln A ∧ ∀ i, i < es.length → S.rf A i = some (es.getD i 0) ∧ objT (S.tg (es.getD i 0))
theorem s_lsize {w : Wd} {S : Sh} {J : Jm} {Q : Out → Sh → Jm → Prop} (hL : Lay S) (l : Nat) (es : List Nat) (h : LsAt S J l es) (K : Q (.inl (some (vI (es.length : Int)))) S J) : V w 0 mJ2_size 0 (ent mJ2_size [vR l]) [] S J Q := by
  refine gJ2_size_0 hL l ⟨h.1, ?_⟩
  rw [h.2.2.1]
  exact K
theorem s_lget {w : Wd} {S : Sh} {J : Jm} {Q : Out → Sh → Jm → Prop} (hL : Lay S) (l : Nat) (i : Int) (es : List Nat) (h : LsAt S J l es) (hi : 0 ≤ i ∧ i < es.length) (K : Q (.inl (some (vR (es.getD i.toNat 0)))) S J) : V w 2 mJ2_get 0 (ent mJ2_get [vR l, vI i]) [] S J Q := by
  obtain ⟨h1, h2, h3, A, hA, tA, h5, h6, h7⟩ := h
  obtain ⟨i, rfl⟩ : ∃ m : Nat, i = m := ⟨i.toNat, by omega⟩
  refine gJ2_get_0 hL l i ⟨h1, by omega, ?_⟩
  refine gJ2_elementData_0 hL l i ⟨h1, A, hA, tA, by omega, _, (h7 i (by omega)).1, ?_⟩
  show V w 2 mJ2_get 14 [some (vR l), some (vI (i : Int))] [vR (es.getD i 0)] S J Q
  exact v_aret dJ2_get_14 rfl rfl K
/-- behind an add: what else is as it was -/
def LAdd (S : Sh) (J : Jm) (l : Nat) (S' : Sh) (J' : Jm) : Prop := (∀ x k, x ≠ l → J' x k = J x k) ∧ (∀ x k, x < S.n → (x = l → k ≠ 1) → S.rf l 1 ≠ some x → S'.rf x k = S.rf x k) ∧ (S'.rf l 1 = S.rf l 1 ∨ (S'.rf l 1 = some S.n ∧ S.n < S'.n ∧ S'.tg S.n = 37))
theorem s_ladd {w : Wd} {S : Sh} {J : Jm} {Q : Out → Sh → Jm → Prop} (hL : Lay S) (l e : Nat) (es : List Nat) (h : LsAt S J l es) (h60 : es.length < 60) (he : objT (S.tg e)) (c1 : S.n + 1 ≤ capN) (c2 : S.sl + 200 ≤ capS)
    (K : ∀ S' J', Nx 1 200 S S' → (LsAt S' J' l (es ++ [e]) ∧ LAdd S J l S' J') → Q (.inl (some (vI 1))) S' J') : V w 6 mJ2_add 0 (ent mJ2_add [vR l, vR e]) [] S J Q := by
  obtain ⟨h1, h2, h3, A, hA, tA, h5, h6, h7⟩ := h
  refine v_shp (fun hs => ?_)
  have hlA : l ≠ A := fun q => by rw [q, tA] at h1; cases h1
  have hln := hs.lt h1 (by decide)
  have hAn := hs.lt tA (by decide)
  have hen : e < S.n := by
    obtain ⟨C, T0, N, hcl, -⟩ := he
    exact hs.lt rfl (fun q => by rw [q] at hcl; cases hcl)
  have hesn : ∀ i, i < es.length → es.getD i 0 < S.n := fun i hi => by
    obtain ⟨C, T0, N, hcl, -⟩ := (h7 i hi).2
    exact hs.lt rfl (fun q => by rw [q] at hcl; cases hcl)
  refine gJ2_add_0 hL l e ⟨h1, by rw [h2]; omega, A, hA, ?_⟩
  rw [h3, h2]
  -- the end
  have fin : ∀ (S' : Sh) (J' : Jm), Nx 1 200 S S' → (LsAt S' J' l (es ++ [e]) ∧ LAdd S J l S' J') → CallQ w 6 mJ2_add 20 [some (vR l), some (vR e)] [] Q (.inl none) S' J' := by
    intro S' J' hx hp
    show V w 6 mJ2_add 23 [some (vR l), some (vR e)] [] S' J' Q
    refine v_iconst dJ2_add_23 (in_lit (by decide)) ?_
    exact v_iret dJ2_add_24 rfl (by decide) (K S' J' hx hp)
  have gl : ∀ i, i < es.length → (es ++ [e]).getD i 0 = es.getD i 0 := fun i hi => by rw [List.getD_eq_getElem?_getD, List.getElem?_append_left hi, ← List.getD_eq_getElem?_getD]
  have ge : (es ++ [e]).getD es.length 0 = e := by
    rw [List.getD_eq_getElem?_getD, List.getElem?_append_right (Nat.le_refl _), Nat.sub_self]
    rfl
  have hJ : ∀ x k, x ≠ l → up (up J l 0 ((es.length : Int) + 1)) l 2 ((es.length + 1 : Nat) : Int) x k = J x k := fun x k q => by rw [up_na q, up_na q]
  -- the element is laid in and counted
  have lay : ∀ (S1 : Sh) (A1 : Nat), Lay S1 → Shp S1 → Nx 1 200 S S1 → S1.tg l = 24 → S1.rf l 1 = some A1 → l ≠ A1 → S1.tg A1 = 37 → es.length < S1.ln A1 → objT (S1.tg e) → (∀ i, i < es.length → S1.rf A1 i = some (es.getD i 0) ∧ objT (S1.tg (es.getD i 0))) → (∀ S2, S2 = upR S1 A1 es.length (some e) → LAdd S J l S2 (up (up J l 0 ((es.length : Int) + 1)) l 2 ((es.length + 1 : Nat) : Int))) → V w 5 mJ2_add_2 11 [some (vR l), some (vR e), some (vR A1), some (vI (es.length : Int))] [] S1 (up J l 0 ((es.length : Int) + 1)) (CallQ w 6 mJ2_add 20 [some (vR l), some (vR e)] [] Q) := by
    intro S1 A1 l1 s1 x1 t1 r1 n1 tA1 len1 e1 el1 hadd
    refine gJ2_add_2_11 l1 l e A1 es.length ⟨tA1, by omega, e1, fun S2 e2 => ⟨by omega, t1, ?_⟩⟩
    refine fin S2 _ ⟨by rw [e2]; exact lay_tg l1 tA1 rfl, by rw [e2]; exact x1.2.1.trans Ex.up, by rw [e2]; exact x1.2.2.1, by rw [e2]; exact x1.2.2.2⟩ ⟨⟨by rw [e2]; exact t1, ?_, ?_, A1, ?_, by rw [e2]; exact tA1, by rw [e2]; show 1 ≤ S1.ln A1; omega, by rw [e2, List.length_append]; show es.length + 1 ≤ S1.ln A1; omega, fun i hi => ?_⟩, hadd S2 e2⟩
    · rw [up_nk (by decide), up_self, List.length_append]; rfl
    · rw [up_self, List.length_append]; rfl
    · rw [e2, upR_na n1]; exact r1
    · rw [List.length_append] at hi
      have hi1 : i < es.length + 1 := hi
      by_cases q : i = es.length
      · subst q
        rw [ge, e2, upR_self]
        exact ⟨rfl, e1⟩
      · rw [gl i (by omega), e2, upR_nk q]
        exact el1 i (by omega)
  refine gJ2_add_2_0 hL l e A es.length ⟨tA, br_i (fun c => ⟨h1, ?_⟩) (fun c => ?_)⟩
  · have hc : S.ln A = es.length := by omega
    refine gJ2_grow_0 hL l ⟨h1, ?_⟩
    rw [up_nk (by decide), h3]
    refine ⟨by omega, ?_⟩
    refine s_grow2 hL l A _ h1 hA tA (by omega) (by omega) (fun i r hi hr => ?_) c1 c2 (fun S1 J1 r hx hp => ?_)
    · have q := h7 i (by omega)
      rw [q.1] at hr
      cases hr
      exact q.2
    · obtain ⟨p1, p2, ⟨n, n1, n2, p3⟩, -, p5⟩ := hp
      subst p2 p1
      show V w 4 mJ2_grow 10 [some (vR l)] [vR (Sh.n S)] S1 _ _
      refine v_aret dJ2_grow_10 rfl rfl ?_
      show V w 5 mJ2_add_2 10 [some (vR l), some (vR e), some (vR A), some (vI (es.length : Int))] [vR (Sh.n S)] S1 _ _
      refine v_shp (fun hs1 => ?_)
      refine v_forget (ls' := [some (vR l), some (vR e), none, some (vI (es.length : Int))]) (fg_some (fg_some (fg_none (fg_some fg_nil)))) ?_
      refine gJ2_add_2_10 hx.1 l e es.length (Sh.n S) ?_
      have hlp : l ≠ Sh.n S := by omega
      have r1 : S1.rf l 1 = some (Sh.n S) := by rw [p3, upR_self]
      have tn : S1.tg (Sh.n S) = 37 := by rw [p3]; exact alS_tg_self (len := n) (sz := n)
      have ln1 : S1.ln (Sh.n S) = n := by rw [p3]; exact alS_ln_self (t := 37) (sz := n)
      refine lay S1 (Sh.n S) hx.1 hs1 hx (hx.2.1.tg hs h1 (by decide)) r1 hlp tn (by rw [ln1]; omega) (he.ex hx.2.1 hs) (fun i hi => ⟨?_, ((h7 i hi).2).ex hx.2.1 hs⟩) (fun S2 e2 => ⟨hJ, fun x k hx1 hx2 hx3 => ?_, .inr ⟨?_, ?_, ?_⟩⟩)
      · rw [p3, upR_na (fun q => hlp q.symm)]
        show (if Sh.n S = Sh.n S ∧ 0 ≤ i ∧ i < 0 + S.ln A then S.rf A (0 + (i - 0)) else S.rf (Sh.n S) i) = _
        rw [if_pos ⟨rfl, by omega, by omega⟩, Nat.sub_zero, Nat.zero_add]
        exact (h7 i hi).1
      · rw [e2, upR_na (by omega), p3, upR_ne (fun q => hx2 q.1 q.2)]
        show (if x = Sh.n S ∧ _ then _ else S.rf x k) = _
        rw [if_neg (fun q => by omega)]
      · rw [e2, upR_na hlp, r1]
      · rw [e2]; show S.n < S1.n; rw [p3]; exact Nat.lt_succ_self _
      · rw [e2]; exact tn
  · refine lay S A hL hs (Nx.same hL) h1 hA hlA tA (by omega) he h7 (fun S2 e2 => ⟨hJ, fun x k hx1 hx2 hx3 => ?_, .inl ?_⟩)
    · rw [e2, upR_na (fun q => hx3 (by rw [q]; exact hA))]
    · rw [e2, upR_na hlA]
