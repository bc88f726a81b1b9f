/-! the model: small values -/
set_option maxRecDepth 100000
theorem gX5_vowel_0 {w : Wd} {S : Sh} {J : Jm} {Q : Out → Sh → Jm → Prop} (hL : Lay S) (x0 : Int)
    (K : Br (x0 = 97) (Q (.inl (some (vI 0))) S J) (Br (x0 = 101) (Q (.inl (some (vI 1))) S J) (Br (x0 = 105) (Q (.inl (some (vI 2))) S J) (Br (x0 = 111) (Q (.inl (some (vI 3))) S J) (Br (x0 = 117) (Q (.inl (some (vI 4))) S J) (Q (.inl (some (vI (-1)))) S J)))))) :
    V w 0 mX5_vowel 0 (ent mX5_vowel [vI x0]) [] S J Q := by
  show V w 0 mX5_vowel 0 [some (vI x0)] [] S J Q
  refine v_iload_n dX5_vowel_0 rfl ?_
  refine v_bipush dX5_vowel_1 (by decide) (in_lit (by decide)) ?_
  obtain ⟨K1, K2⟩ := K
  refine v_icmp_ne 10 dX5_vowel_3 (by decide) (fun cQ => ?_) (fun cQ => ?_)
  · have K := K2 cQ
    refine v_iload_n dX5_vowel_10 rfl ?_
    refine v_bipush dX5_vowel_11 (by decide) (in_lit (by decide)) ?_
    obtain ⟨K1, K2⟩ := K
    refine v_icmp_ne 20 dX5_vowel_13 (by decide) (fun cQ => ?_) (fun cQ => ?_)
    · have K := K2 cQ
      refine v_iload_n dX5_vowel_20 rfl ?_
      refine v_bipush dX5_vowel_21 (by decide) (in_lit (by decide)) ?_
      obtain ⟨K1, K2⟩ := K
      refine v_icmp_ne 30 dX5_vowel_23 (by decide) (fun cQ => ?_) (fun cQ => ?_)
      · have K := K2 cQ
        refine v_iload_n dX5_vowel_30 rfl ?_
        refine v_bipush dX5_vowel_31 (by decide) (in_lit (by decide)) ?_
        obtain ⟨K1, K2⟩ := K
        refine v_icmp_ne 40 dX5_vowel_33 (by decide) (fun cQ => ?_) (fun cQ => ?_)
        · have K := K2 cQ
          refine v_iload_n dX5_vowel_40 rfl ?_
          refine v_bipush dX5_vowel_41 (by decide) (in_lit (by decide)) ?_
          obtain ⟨K1, K2⟩ := K
          refine v_icmp_ne 50 dX5_vowel_43 (by decide) (fun cQ => ?_) (fun cQ => ?_)
          · have K := K2 cQ
            refine v_iconst dX5_vowel_50 (in_lit (by decide)) ?_
            exact v_iret dX5_vowel_51 rfl rfl K
          · have K := K1 cQ
            refine v_iconst dX5_vowel_46 (in_lit (by decide)) ?_
            refine v_goto 51 dX5_vowel_47 (by decide) ?_
            exact v_iret dX5_vowel_51 rfl rfl K
        · have K := K1 cQ
          refine v_iconst dX5_vowel_36 (in_lit (by decide)) ?_
          refine v_goto 51 dX5_vowel_37 (by decide) ?_
          exact v_iret dX5_vowel_51 rfl rfl K
      · have K := K1 cQ
        refine v_iconst dX5_vowel_26 (in_lit (by decide)) ?_
        refine v_goto 51 dX5_vowel_27 (by decide) ?_
        exact v_iret dX5_vowel_51 rfl rfl K
    · have K := K1 cQ
      refine v_iconst dX5_vowel_16 (in_lit (by decide)) ?_
      refine v_goto 51 dX5_vowel_17 (by decide) ?_
      exact v_iret dX5_vowel_51 rfl rfl K
  · have K := K1 cQ
    refine v_iconst dX5_vowel_6 (in_lit (by decide)) ?_
    refine v_goto 51 dX5_vowel_7 (by decide) ?_
    exact v_iret dX5_vowel_51 rfl rfl K
theorem gX5_vowelLetter_0 {w : Wd} {S : Sh} {J : Jm} {Q : Out → Sh → Jm → Prop} (hL : Lay S) (x0 : Int)
    (K : Br (x0 = 0) (Q (.inl (some (vI 97))) S J) (Br (x0 = 1) (Q (.inl (some (vI 101))) S J) (Br (x0 = 2) (Q (.inl (some (vI 105))) S J) (Br (x0 = 3) (Q (.inl (some (vI 111))) S J) (Q (.inl (some (vI 117))) S J))))) :
    V w 0 mX5_vowelLetter 0 (ent mX5_vowelLetter [vI x0]) [] S J Q := by
  show V w 0 mX5_vowelLetter 0 [some (vI x0)] [] S J Q
  refine v_iload_n dX5_vowelLetter_0 rfl ?_
  obtain ⟨K1, K2⟩ := K
  refine v_if_ne 9 dX5_vowelLetter_1 (by decide) (fun cQ => ?_) (fun cQ => ?_)
  · have K := K2 cQ
    refine v_iload_n dX5_vowelLetter_9 rfl ?_
    refine v_iconst dX5_vowelLetter_10 (in_lit (by decide)) ?_
    obtain ⟨K1, K2⟩ := K
    refine v_icmp_ne 19 dX5_vowelLetter_11 (by decide) (fun cQ => ?_) (fun cQ => ?_)
    · have K := K2 cQ
      refine v_iload_n dX5_vowelLetter_19 rfl ?_
      refine v_iconst dX5_vowelLetter_20 (in_lit (by decide)) ?_
      obtain ⟨K1, K2⟩ := K
      refine v_icmp_ne 29 dX5_vowelLetter_21 (by decide) (fun cQ => ?_) (fun cQ => ?_)
      · have K := K2 cQ
        refine v_iload_n dX5_vowelLetter_29 rfl ?_
        refine v_iconst dX5_vowelLetter_30 (in_lit (by decide)) ?_
        obtain ⟨K1, K2⟩ := K
        refine v_icmp_ne 39 dX5_vowelLetter_31 (by decide) (fun cQ => ?_) (fun cQ => ?_)
        · have K := K2 cQ
          refine v_bipush dX5_vowelLetter_39 (by decide) (in_lit (by decide)) ?_
          exact v_iret dX5_vowelLetter_41 rfl rfl K
        · have K := K1 cQ
          refine v_bipush dX5_vowelLetter_34 (by decide) (in_lit (by decide)) ?_
          refine v_goto 41 dX5_vowelLetter_36 (by decide) ?_
          exact v_iret dX5_vowelLetter_41 rfl rfl K
      · have K := K1 cQ
        refine v_bipush dX5_vowelLetter_24 (by decide) (in_lit (by decide)) ?_
        refine v_goto 41 dX5_vowelLetter_26 (by decide) ?_
        exact v_iret dX5_vowelLetter_41 rfl rfl K
    · have K := K1 cQ
      refine v_bipush dX5_vowelLetter_14 (by decide) (in_lit (by decide)) ?_
      refine v_goto 41 dX5_vowelLetter_16 (by decide) ?_
      exact v_iret dX5_vowelLetter_41 rfl rfl K
  · have K := K1 cQ
    refine v_bipush dX5_vowelLetter_4 (by decide) (in_lit (by decide)) ?_
    refine v_goto 41 dX5_vowelLetter_6 (by decide) ?_
    exact v_iret dX5_vowelLetter_41 rfl rfl K
theorem gX5_see_0 {w : Wd} {S : Sh} {J : Jm} {Q : Out → Sh → Jm → Prop} (hL : Lay S) (x1 : Int)
    (K : Br (J 313 16 ≤ x1) (Q (.inl (some (vI 0))) S J) ((0 ≤ x1) ∧ (x1 < 300) ∧ Q (.inl (some (vI (J 325 x1.toNat)))) S J)) :
    V w 0 mX5_see 0 (ent mX5_see [vR 313, vI x1]) [] S J Q := by
  show V w 0 mX5_see 0 [some (vR 313), some (vI x1)] [] S J Q
  refine v_iload_n dX5_see_0 rfl ?_
  refine v_aload_n dX5_see_1 rfl ?_
  refine v_getI dX5_see_2 frX5_180_5 rfl rfl (L_313 hL).1 ?_
  obtain ⟨K1, K2⟩ := K
  refine v_icmp_ge 17 dX5_see_5 (by decide) (fun cQ => ?_) (fun cQ => ?_)
  · have K := K1 cQ
    refine v_iconst dX5_see_17 (in_lit (by decide)) ?_
    exact v_iret dX5_see_18 rfl rfl K
  · have K := K2 cQ
    refine v_aload_n dX5_see_8 rfl ?_
    refine v_getR dX5_see_9 frX5_47_5 rfl (L_313 hL).1 (LR_313_15 hL) (Or.inl rfl) ?_
    refine v_iload_n dX5_see_12 rfl ?_
    obtain ⟨o1, K⟩ := K
    obtain ⟨o2, K⟩ := K
    refine ld_325 dX5_see_13 hL o1 o2 ?_
    refine v_goto 18 dX5_see_14 (by decide) ?_
    exact v_iret dX5_see_18 rfl rfl K

def vwL (v : Int) : Int := if v = 0 then 97 else if v = 1 then 101 else if v = 2 then 105 else if v = 3 then 111 else 117
theorem s_vowel {w : Wd} {S : Sh} {J : Jm} {Q : Out → Sh → Jm → Prop} (hL : Lay S) (c : Int) (K : Q (.inl (some (vI (vwI c)))) S J) : V w 0 mX5_vowel 0 (ent mX5_vowel [vI c]) [] S J Q := by
  refine gX5_vowel_0 hL c ?_
  unfold vwI at K
  repeat' (first | refine br_i (fun hb => ?_) (fun hb => ?_))
  all_goals (simp only [*, if_true, if_false, reduceIte] at K; first | exact K | (revert K; simp_all))
theorem s_vowelLetter {w : Wd} {S : Sh} {J : Jm} {Q : Out → Sh → Jm → Prop} (hL : Lay S) (c : Int) (K : Q (.inl (some (vI (vwL c)))) S J) : V w 0 mX5_vowelLetter 0 (ent mX5_vowelLetter [vI c]) [] S J Q := by
  refine gX5_vowelLetter_0 hL c ?_
  unfold vwL at K
  repeat' (first | refine br_i (fun hb => ?_) (fun hb => ?_))
  all_goals (simp only [*, if_true, if_false, reduceIte] at K; first | exact K | (revert K; simp_all))
/-- the byte of the tape at a place; 0 behind its end -/
def seeT (J : Jm) (k : Nat) : Int := if (k : Int) < J 313 16 then J 325 k else 0
theorem s_see {w : Wd} {S : Sh} {J : Jm} {Q : Out → Sh → Jm → Prop} (hL : Lay S) (k : Int) (hk : 0 ≤ k) (ht : J 313 16 ≤ 300) (K : Q (.inl (some (vI (seeT J k.toNat)))) S J) : V w 0 mX5_see 0 (ent mX5_see [vR 313, vI k]) [] S J Q := by
  refine gX5_see_0 hL k ?_
  unfold seeT at K
  repeat' (first | refine br_i (fun hb => ?_) (fun hb => ?_) | (refine And.intro ?_ ?_; omega))
  all_goals first
    | (rw [if_pos (by omega)] at K; exact K)
    | (rw [if_neg (by omega)] at K; exact K)
