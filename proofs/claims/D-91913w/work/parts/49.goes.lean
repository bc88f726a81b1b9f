/-! the model: goesThrough -/
set_option maxRecDepth 100000

theorem GvAt.cong {J J' : Jm} {k : Nat} {g : Nat → Int} (h : GvAt J k g) (e : ∀ x, x < 40 → J' 358 (40 * k + x) = J 358 (40 * k + x)) : GvAt J' k g := fun x hx => by
  rw [e x hx]
  exact h x hx
theorem ChAt.cong {J J' : Jm} {E : WE} {ch : List Nat} (h : ChAt J E ch) (e : ∀ i, i < ch.length → J' 357 i = J 357 i) : ChAt J' E ch := fun i hi => by
  obtain ⟨u, h1, h2, h3⟩ := h i hi
  exact ⟨u, h1, by rw [e i hi]; exact h2, h3⟩
/-- what a meeting of a way may write -/
def mtF (J J' : Jm) : Prop := ∀ b k, ¬ (b = 361 ∨ b = 359 ∨ b = 360 ∨ b = 362 ∨ (b = 313 ∧ k = 68) ∨ (b = 358 ∧ 280 ≤ k)) → J' b k = J b k
theorem mtF.gt {J J' : Jm} (h : mtF J J') : gtF J J' := fun b k q => h b k (fun e => q (by unfold gtS; omega))
/-- levels below j are as they were -/
def lvF (J J' : Jm) (j : Nat) : Prop := ∀ b k, ¬ (b = 357 ∧ j ≤ k) → ¬ (b = 358 ∧ 40 * (j + 1) ≤ k) → ¬ (b = 361 ∨ b = 359 ∨ b = 360 ∨ b = 362 ∨ (b = 313 ∧ k = 68)) → J' b k = J b k
theorem lvF.rfl' {J : Jm} {j : Nat} : lvF J J j := fun _ _ _ _ _ => rfl
theorem lvF.trans {J J1 J2 : Jm} {j : Nat} (h : lvF J J1 j) (h2 : lvF J1 J2 j) : lvF J J2 j := fun b k q1 q2 q3 => (h2 b k q1 q2 q3).trans (h b k q1 q2 q3)
theorem lvF.gt {J J' : Jm} {j : Nat} (h : lvF J J' j) : gtF J J' := fun b k q => h b k (fun e => q (by unfold gtS; omega)) (fun e => q (by unfold gtS; omega)) (fun e => q (by unfold gtS; omega))
theorem gvF.lv {J J' : Jm} {j : Nat} (h : gvF J J' (j + 1)) : lvF J J' j := fun b k q1 q2 q3 => h b k (fun e => q2 ⟨e.1, e.2.1⟩)
theorem mtF.lv {J J' : Jm} {j : Nat} (hj : j < 7) (h : mtF J J') : lvF J J' j := fun b k q1 q2 q3 => h b k (fun e => by
  rcases e with e | e | e | e | e | e
  · exact q3 (by omega)
  · exact q3 (by omega)
  · exact q3 (by omega)
  · exact q3 (by omega)
  · exact q3 (by omega)
  · exact q2 ⟨e.1, by omega⟩)
theorem lvF.up {J J' : Jm} {j k : Nat} {z : Int} (h : lvF J J' j) (hk : j ≤ k) : lvF J (up J' 357 k z) j := fun b i q1 q2 q3 => by
  rw [up_ne (fun e => q1 ⟨e.1, by omega⟩)]
  exact h b i q1 q2 q3
theorem lvF.mono {J J' : Jm} {j i : Nat} (hji : j ≤ i) (h : lvF J J' i) : lvF J J' j := fun b k q1 q2 q3 => h b k (fun e => q1 ⟨e.1, by omega⟩) (fun e => q2 ⟨e.1, by omega⟩) q3
theorem s_goes {w : Wd} {S : Sh} {J : Jm} {Q : Out → Sh → Jm → Prop} (hL : Lay S) (how known : Int) (E : WE) (N : Nat) (hE : EnvAt J E N) (I : Nat → Jm → Prop) (F : Jm → Prop)
    (hI : ∀ i J1 J2, I i J1 → (∀ b k, b ≠ 357 → b ≠ 358 → J2 b k = J1 b k) → I i J2)
    (hI0 : I 0 (up J 313 68 0))
    (hM : ∀ (i : Nat) (ch : List Nat) (g : Nat → Int) (J1 : Jm) (Q' : Out → Sh → Jm → Prop), (wy E N 0 [] (fun _ => -1))[i]? = some (ch, g) → gtF J J1 → I i J1 → ChAt J1 E ch → ch.length = N → GvAt J1 N g → (∀ (b : Int) (J2 : Jm), (b = 0 ∨ b = 1) → mtF J1 J2 → (b = 1 → I (i + 1) J2) → (b = 0 → F J2) → Q' (.inl (some (vI b))) S J2) → V w 3 mX5_meets 0 (ent mX5_meets [vR 313, vI how, vI known]) [] S J1 Q')
    (K : ∀ J', gtF J J' → (I (wy E N 0 [] (fun _ => -1)).length J' ∨ F J') → Q (.inl none) S J') : V w 4 mX5_goesThrough 0 (ent mX5_goesThrough [vR 313, vI how, vI known]) [] S J Q := by
  obtain ⟨h1, h2, h3, h4⟩ := id hE
  generalize hWL : wy E N 0 [] (fun _ => -1) = WL at hM K
  -- one level
  have lev : ∀ (m j : Nat) (ch : List Nat) (g : Nat → Int), j + m + 1 = N → ch.length = j → ∀ (v u i : Nat) (J1 : Jm) (pre post : List Way), u + v = E.rw (E.tb j) → WL = pre ++ rowsF (wyU E m j ch g) v u ++ post → pre.length = i → gtF J J1 → I i J1 → ChAt J1 E ch → GvAt J1 j g → J1 357 j = (u : Int) - 1 →
      (∀ J2, gtF J J2 → I (i + (rowsF (wyU E m j ch g) v u).length) J2 → lvF J1 J2 j → V w 4 mX5_goesThrough 54 [some (vR 313), some (vI how), some (vI known), some (vI ((j : Int) + (-1))), some (vI 1)] [] S J2 Q) →
      V w 4 mX5_goesThrough 54 [some (vR 313), some (vI how), some (vI known), some (vI (j : Int)), some (vI 1)] [] S J1 Q := by
    intro m
    induction m with
    | zero =>
      intro j ch g hjm hch v
      induction v with
      | zero =>
        intro u i J1 pre post huv hW hi f1 i1 c1 g1 r1 Kc
        obtain ⟨-, -, b3, -⟩ := hE.gt f1
        obtain ⟨b1, b2, -, b4, -⟩ := b3 j (by omega)
        refine gX5_goesThrough_54 (J := J1) hL how known (j : Int) 1 (br_n (by omega) (br_n (by omega) ?_))
        rw [Int.toNat_natCast, up_self, r1, b1.1, Int.toNat_natCast, b2.1, Int.toNat_natCast, b4.1, show (u : Int) - 1 + 1 = (u : Int) by omega]
        (repeat' (first | ((with_reducible refine And.intro ?_ ?_); omega)))
        refine br_y (by omega) ⟨by omega, ?_⟩
        exact Kc _ (f1.up (Or.inl rfl)) (hI i J1 _ i1 (fun b k h _ => up_na h)) (lvF.rfl'.up (Nat.le_refl _))
      | succ v ih =>
        intro u i J1 pre post huv hW hi f1 i1 c1 g1 r1 Kc
        obtain ⟨-, -, b3, -⟩ := hE.gt f1
        obtain ⟨b1, b2, -, b4, -⟩ := b3 j (by omega)
        refine gX5_goesThrough_54 (J := J1) hL how known (j : Int) 1 (br_n (by omega) (br_n (by omega) ?_))
        rw [Int.toNat_natCast, up_self, r1, b1.1, Int.toNat_natCast, b2.1, Int.toNat_natCast, b4.1, show (u : Int) - 1 + 1 = (u : Int) by omega]
        (repeat' (first | ((with_reducible refine And.intro ?_ ?_); omega)))
        refine br_n (by omega) ?_
        generalize hJ2 : up J1 357 j (u : Int) = J2
        have l2 : lvF J1 J2 j := by rw [← hJ2]; exact lvF.rfl'.up (Nat.le_refl _)
        have f2 : gtF J J2 := by rw [← hJ2]; exact f1.up (Or.inl rfl)
        have i2 : I i J2 := hI i J1 _ i1 (fun b k h _ => by rw [← hJ2]; exact up_na h)
        have r2 : J2 357 j = (u : Int) := by rw [← hJ2]; exact up_self
        have c2 : ChAt J2 E ch := c1.cong (fun i hi => l2 _ _ (by omega) (by omega) (by omega))
        have g2 : GvAt J2 j g := g1.cong (fun x hx => l2 _ _ (by omega) (by omega) (by omega))
        rw [rowsF] at hW Kc
        refine s_tries hL E N j ch g u (hE.gt f2) (by omega) hch c2 (by omega) r2 g2 (fun ht J3 f3 => ?_) (fun g' ht J3 f3 hg3 => ?_)
        · refine gX5_goesThrough_109 (J := J3) hL how known j 1 0 (br_y rfl ?_)
          have e0 : wyU E 0 j ch g u = [] := by unfold wyU; rw [ht]
          rw [e0, List.nil_append] at hW Kc
          have l3 : lvF J2 J3 j := f3.lv
          refine ih (u + 1) i J3 pre post (by omega) hW hi (f2.trans f3.gt) (hI i J2 _ i2 (fun b k _ h => f3 b k (fun e => h e.1))) (c2.cong (fun i hi => l3 _ _ (by omega) (by omega) (by omega))) (g2.cong (fun x hx => l3 _ _ (by omega) (by omega) (by omega))) (by rw [f3 _ _ (by omega), r2]; push_cast; omega) (fun J4 f4 i4 l4 => Kc J4 f4 i4 ((l2.trans l3).trans l4))
        · refine gX5_goesThrough_109 (J := J3) hL how known j 1 1 (br_n (by omega) ⟨by omega, br_y (by rw [(f2.trans f3.gt) _ _ (by unfold gtS; omega)]; omega) ?_⟩)
          have e0 : wyU E 0 j ch g u = [(ch ++ [8 * E.tb j + u], g')] := by unfold wyU; rw [ht]; rfl
          have l3 : lvF J2 J3 j := f3.lv
          have i3 : I i J3 := hI i J2 _ i2 (fun b k _ h => f3 b k (fun e => h e.1))
          have c3 : ChAt J3 E (ch ++ [8 * E.tb j + u]) := by
            intro q hq
            rw [len_app] at hq
            by_cases e : q = ch.length
            · subst e
              rw [getD_app_r, hch]
              exact ⟨u, by omega, by rw [f3 _ _ (by omega)]; exact r2, rfl⟩
            · rw [getD_app_l (by omega)]
              obtain ⟨z, z1, z2, z3⟩ := c2 q (by omega)
              exact ⟨z, z1, by rw [f3 _ _ (by omega)]; exact z2, z3⟩
          rw [e0] at hW Kc
          have hat : WL[i]? = some (ch ++ [8 * E.tb j + u], g') := by
            rw [hW, ← hi, List.append_assoc, List.getElem?_append_right (Nat.le_refl _)]
            simp
          refine hM i _ g' J3 _ hat (f2.trans f3.gt) i3 c3 (by rw [len_app]; omega) (by rw [show N = j + 1 by omega]; exact hg3) (fun b J4 hb m4 k1 k2 => ?_)
          have l4 : lvF J3 J4 j := m4.lv (by omega)
          refine v_forget (fg_some (fg_some (fg_some (fg_some (fg_none fg_nil))))) (gX5_goesThrough_128 (J := J4) hL how known j b ?_)
          by_cases hb1 : b = 1
          · subst hb1
            refine ih (u + 1) (i + 1) J4 (pre ++ [(ch ++ [8 * E.tb j + u], g')]) post (by omega) (by rw [hW]; simp) (by rw [len_app]; omega) ((f2.trans f3.gt).trans m4.gt) (k1 rfl) (c2.cong (fun i hi => (l4 _ _ (by omega) (by omega) (by omega)).trans (l3 _ _ (by omega) (by omega) (by omega)))) (g2.cong (fun x hx => (l4 _ _ (by omega) (by omega) (by omega)).trans (l3 _ _ (by omega) (by omega) (by omega)))) (by rw [m4 _ _ (by omega), f3 _ _ (by omega), r2]; push_cast; omega) (fun J5 f5 i5 l5 => Kc J5 f5 ?_ (((l2.trans l3).trans l4).trans l5))
            rw [List.length_append, List.length_singleton, show i + (1 + (rowsF (wyU E 0 j ch g) v (u + 1)).length) = i + 1 + (rowsF (wyU E 0 j ch g) v (u + 1)).length by omega]
            exact i5
          · obtain rfl : b = 0 := by omega
            exact gX5_goesThrough_54 (J := J4) hL how known (j : Int) 0 (br_n (by omega) (br_y rfl (K J4 ((f2.trans f3.gt).trans m4.gt) (Or.inr (k2 rfl)))))
    | succ m ihm =>
      intro j ch g hjm hch v
      induction v with
      | zero =>
        intro u i J1 pre post huv hW hi f1 i1 c1 g1 r1 Kc
        obtain ⟨-, -, b3, -⟩ := hE.gt f1
        obtain ⟨b1, b2, -, b4, -⟩ := b3 j (by omega)
        refine gX5_goesThrough_54 (J := J1) hL how known (j : Int) 1 (br_n (by omega) (br_n (by omega) ?_))
        rw [Int.toNat_natCast, up_self, r1, b1.1, Int.toNat_natCast, b2.1, Int.toNat_natCast, b4.1, show (u : Int) - 1 + 1 = (u : Int) by omega]
        (repeat' (first | ((with_reducible refine And.intro ?_ ?_); omega)))
        refine br_y (by omega) ⟨by omega, ?_⟩
        exact Kc _ (f1.up (Or.inl rfl)) (hI i J1 _ i1 (fun b k h _ => up_na h)) (lvF.rfl'.up (Nat.le_refl _))
      | succ v ih =>
        intro u i J1 pre post huv hW hi f1 i1 c1 g1 r1 Kc
        obtain ⟨-, -, b3, -⟩ := hE.gt f1
        obtain ⟨b1, b2, -, b4, -⟩ := b3 j (by omega)
        refine gX5_goesThrough_54 (J := J1) hL how known (j : Int) 1 (br_n (by omega) (br_n (by omega) ?_))
        rw [Int.toNat_natCast, up_self, r1, b1.1, Int.toNat_natCast, b2.1, Int.toNat_natCast, b4.1, show (u : Int) - 1 + 1 = (u : Int) by omega]
        (repeat' (first | ((with_reducible refine And.intro ?_ ?_); omega)))
        refine br_n (by omega) ?_
        generalize hJ2 : up J1 357 j (u : Int) = J2
        have l2 : lvF J1 J2 j := by rw [← hJ2]; exact lvF.rfl'.up (Nat.le_refl _)
        have f2 : gtF J J2 := by rw [← hJ2]; exact f1.up (Or.inl rfl)
        have i2 : I i J2 := hI i J1 _ i1 (fun b k h _ => by rw [← hJ2]; exact up_na h)
        have r2 : J2 357 j = (u : Int) := by rw [← hJ2]; exact up_self
        have c2 : ChAt J2 E ch := c1.cong (fun i hi => l2 _ _ (by omega) (by omega) (by omega))
        have g2 : GvAt J2 j g := g1.cong (fun x hx => l2 _ _ (by omega) (by omega) (by omega))
        rw [rowsF] at hW Kc
        refine s_tries hL E N j ch g u (hE.gt f2) (by omega) hch c2 (by omega) r2 g2 (fun ht J3 f3 => ?_) (fun g' ht J3 f3 hg3 => ?_)
        · refine gX5_goesThrough_109 (J := J3) hL how known j 1 0 (br_y rfl ?_)
          have e0 : wyU E (m + 1) j ch g u = [] := by unfold wyU; rw [ht]
          rw [e0, List.nil_append] at hW Kc
          have l3 : lvF J2 J3 j := f3.lv
          refine ih (u + 1) i J3 pre post (by omega) hW hi (f2.trans f3.gt) (hI i J2 _ i2 (fun b k _ h => f3 b k (fun e => h e.1))) (c2.cong (fun i hi => l3 _ _ (by omega) (by omega) (by omega))) (g2.cong (fun x hx => l3 _ _ (by omega) (by omega) (by omega))) (by rw [f3 _ _ (by omega), r2]; push_cast; omega) (fun J4 f4 i4 l4 => Kc J4 f4 i4 ((l2.trans l3).trans l4))
        · have e0 : wyU E (m + 1) j ch g u = rowsF (wyU E m (j + 1) (ch ++ [8 * E.tb j + u]) g') (E.rw (E.tb (j + 1))) 0 := by unfold wyU; rw [ht]; rfl
          have l3 : lvF J2 J3 j := f3.lv
          have i3 : I i J3 := hI i J2 _ i2 (fun b k _ h => f3 b k (fun e => h e.1))
          refine gX5_goesThrough_109 (J := J3) hL how known j 1 1 (br_n (by omega) ⟨by omega, br_n (by rw [(f2.trans f3.gt) _ _ (by unfold gtS; omega)]; omega) ⟨by omega, ?_⟩⟩)
          generalize hJ4 : up J3 357 (j + 1) (-1) = J4
          have l4 : lvF J3 J4 j := by rw [← hJ4]; exact lvF.rfl'.up (by omega)
          have f4 : gtF J J4 := by rw [← hJ4]; exact (f2.trans f3.gt).up (Or.inl rfl)
          have i4 : I i J4 := hI i J3 _ i3 (fun b k h _ => by rw [← hJ4]; exact up_na h)
          have r4 : J4 357 j = (u : Int) := by rw [← hJ4, up_nk (by omega), f3 _ _ (by omega)]; exact r2
          have c4 : ChAt J4 E (ch ++ [8 * E.tb j + u]) := by
            intro q hq
            rw [len_app] at hq
            by_cases e : q = ch.length
            · subst e
              rw [getD_app_r, hch]
              exact ⟨u, by omega, r4, rfl⟩
            · rw [getD_app_l (by omega)]
              obtain ⟨z, z1, z2, z3⟩ := c2 q (by omega)
              exact ⟨z, z1, by rw [← hJ4, up_nk (by omega), f3 _ _ (by omega)]; exact z2, z3⟩
          have g4 : GvAt J4 (j + 1) g' := hg3.cong (fun x hx => by rw [← hJ4]; exact up_na (by decide))
          rw [e0] at hW Kc
          refine ihm (j + 1) (ch ++ [8 * E.tb j + u]) g' (by omega) (by rw [len_app]; omega) (E.rw (E.tb (j + 1))) 0 i J4 pre (rowsF (wyU E (m + 1) j ch g) v (u + 1) ++ post) (by omega) (by rw [hW]; simp) hi f4 i4 c4 g4 (by rw [← hJ4]; exact up_self) (fun J5 f5 i5 l5 => ?_)
          rw [show ((j + 1 : Nat) : Int) + (-1) = (j : Int) by omega]
          have l5' : lvF J4 J5 j := l5.mono (by omega)
          have l25 : lvF J2 J5 j := (l3.trans l4).trans l5'
          refine ih (u + 1) _ J5 (pre ++ rowsF (wyU E m (j + 1) (ch ++ [8 * E.tb j + u]) g') (E.rw (E.tb (j + 1))) 0) post (by omega) (by rw [hW]; simp) (by rw [List.length_append, hi]) f5 i5 (c2.cong (fun i hi => l25 _ _ (by omega) (by omega) (by omega))) (g2.cong (fun x hx => l25 _ _ (by omega) (by omega) (by omega))) (by rw [l5 _ _ (by omega) (by omega) (by omega), r4]; push_cast; omega) (fun J6 f6 i6 l6 => Kc J6 f6 ?_ ((l2.trans l25).trans l6))
          rw [List.length_append, ← Nat.add_assoc]
          exact i6
  -- the start
  refine gX5_goesThrough_0 hL how known ?_
  show V w 4 mX5_goesThrough 7 [some (vR 313), some (vI how), some (vI known), some (vI ((0 : Nat) : Int)), none] [] S (up J 313 68 0) Q
  refine up_loop (P := fun x J1 => (∀ b k, ¬ (b = 358 ∧ k < 40) → J1 b k = (up J 313 68 0) b k) ∧ ∀ y, y < x → J1 358 y = -1) 40 (fun x J1 => V w 4 mX5_goesThrough 7 [some (vR 313), some (vI how), some (vI known), some (vI (x : Int)), none] [] S J1 Q) ?_ ?_ 0 _ (by omega) ⟨fun _ _ _ => rfl, fun y hy => absurd hy (Nat.not_lt_zero _)⟩
  · intro x J1 hx ⟨f1, g1⟩ ih
    refine gX5_goesThrough_7 (J := J1) hL how known x (br_n (by omega) ?_)
    (repeat' (first | ((with_reducible refine And.intro ?_ ?_); omega)))
    refine ih _ ⟨fun b k q => ?_, fun y hy => ?_⟩
    · rw [up_ne (fun e => q ⟨e.1, by omega⟩)]; exact f1 b k q
    · by_cases e : y = x
      · rw [e, up_self]
      · rw [up_nk e]; exact g1 y (by omega)
  · intro J1 ⟨f1, g1⟩
    have et : J1 313 64 = (N : Int) := by rw [f1 _ _ (by omega), up_nk (by decide)]; exact h1
    generalize hJ2 : up J1 357 0 (-1) = J2
    have f2 : gtF J J2 := by
      rw [← hJ2]
      refine gtF.up (fun b k q => ?_) (Or.inl rfl)
      rw [f1 b k (fun e => q (by unfold gtS; omega)), up_ne (fun e => q (by unfold gtS; omega))]
    have i2 : I 0 J2 := hI 0 _ _ hI0 (fun b k q1 q2 => by rw [← hJ2, up_na q1]; exact f1 b k (fun e => q2 e.1))
    have g2 : GvAt J2 0 (fun _ => -1) := fun x hx => ⟨by rw [← hJ2, up_na (by decide)]; exact (by rw [show 40 * 0 + x = x by omega]; exact g1 x hx), Or.inl rfl⟩
    refine gX5_goesThrough_7 (J := J1) hL how known 40 (br_y (by omega) ?_)
    rw [et, hJ2]
    refine br_i (fun hN => ?_) (fun hN => ?_)
    · obtain rfl : N = 0 := by omega
      have hat : WL[0]? = some ([], fun _ => -1) := by rw [← hWL]; rfl
      refine hM 0 [] _ J2 _ hat f2 i2 (fun i hi => absurd hi (Nat.not_lt_zero _)) rfl g2 (fun b J3 hb m3 k1 k2 => ?_)
      refine v_forget (fg_none (fg_none (fg_none (fg_none (fg_none fg_nil))))) (gX5_goesThrough_51 hL b ?_)
      refine K J3 (f2.trans m3.gt) ?_
      by_cases hb1 : b = 1
      · refine Or.inl ?_
        rw [← hWL]
        exact k1 hb1
      · exact Or.inr (k2 (by omega))
    · obtain ⟨m, rfl⟩ : ∃ m, N = m + 1 := ⟨N - 1, by omega⟩
      refine lev m 0 [] (fun _ => -1) (by omega) rfl (E.rw (E.tb 0)) 0 0 J2 [] [] (by omega) (by rw [← hWL, wy_succ]; simp) rfl f2 i2 (fun i hi => absurd hi (Nat.not_lt_zero _)) g2 (by rw [← hJ2, up_self]; rfl) (fun J3 f3 i3 l3 => ?_)
      refine gX5_goesThrough_54 (J := J3) hL how known _ 1 (br_y (by omega) (K J3 f3 (Or.inl ?_)))
      rw [← hWL, wy_succ]
      rw [Nat.zero_add] at i3
      exact i3
