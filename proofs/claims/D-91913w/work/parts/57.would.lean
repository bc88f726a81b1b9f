/-! the model: would, where -/
set_option maxRecDepth 100000

theorem MI0_tape {J : Jm} (h : MI0 J) (z : Int) : MI0 (up J 313 16 z) := by
  obtain ⟨h1, h2, h3, h4, h5⟩ := h
  have n : ∀ k, k ≠ 16 → (up J 313 16 z) 313 k = J 313 k := fun k hk => up_nk hk
  have a : ∀ b k, b ≠ 313 → (up J 313 16 z) b k = J b k := fun b k hb => up_na hb
  refine ⟨?_, ?_, ?_, ?_, ?_⟩
  · unfold MHeld at *
    simp only [n 25 (by decide), a 326 _ (by decide), a 327 _ (by decide), a 328 _ (by decide), a 329 _ (by decide), a 330 _ (by decide)]
    exact h1
  · unfold MTab at *
    simp only [n 2 (by decide), a 316 _ (by decide), a 317 _ (by decide), a 318 _ (by decide)]
    exact h2
  · unfold MTxt at *
    simp only [n 8 (by decide), a 320 _ (by decide), a 321 _ (by decide), a 322 _ (by decide), a 323 _ (by decide), a 324 _ (by decide)]
    exact h3
  · unfold MShr at *
    simp only [n 32 (by decide), a 333 _ (by decide), a 334 _ (by decide), a 335 _ (by decide), a 336 _ (by decide)]
    exact h4
  · unfold MNam NamAt at *
    simp only [n 55 (by decide), n 2 (by decide), a 348 _ (by decide), a 349 _ (by decide), a 350 _ (by decide)]
    exact h5
theorem up_id {J : Jm} {a k : Nat} : up J a k (J a k) = J := by
  funext b j
  by_cases e : b = a ∧ j = k
  · rw [e.1, e.2, up_self]
  · rw [up_ne e]
theorem MI0.mt {J J' : Jm} (h : MI0 J) (f : ∀ b k, mper b k = true → ¬ (b = 313 ∧ k = 16) → J' b k = J b k) : MI0 J' := by
  have hm : Mp J (up J' 313 16 (J 313 16)) := fun b k q => by
    by_cases e : b = 313 ∧ k = 16
    · rw [e.1, e.2, up_self]
    · rw [up_ne e]; exact f b k q e
  have h2 := MI0_tape (h.mp hm) (J' 313 16)
  have e : up (up J' 313 16 (J 313 16)) 313 16 (J' 313 16) = J' := by
    funext b j
    by_cases e : b = 313 ∧ j = 16
    · rw [e.1, e.2, up_self]
    · rw [up_ne e, up_ne e]
  rw [e] at h2
  exact h2
theorem s_waysWith {w : Wd} {S : Sh} {J : Jm} {Q : Out → Sh → Jm → Prop} (hL : Lay S) (known : Int) (t : Nat) (h : MI0 J) (ht : (t : Int) < J 313 2) (hN6 : NamAt J 6) (K : ∀ J', wwF J J' → Q (.inl (some (vI ((wnL J known t).length : Nat)))) S J') : V w 5 mX5_waysWith 0 (ent mX5_waysWith [vR 313, vI known, vI (t : Int)]) [] S J Q := by
  obtain ⟨hH, hT, hX, hS, hN⟩ := id h
  have hT1 := hT.1
  refine gX5_waysWith_0 hL known (t : Int) ⟨h, fun J1 hp => ?_⟩
  obtain ⟨f1, e1, e2, e3, e4⟩ := id hp
  have w1 : wwF J (up J1 350 6 (t : Int)) := ⟨f1.kp.up rfl, by rw [up_na (by decide)]; exact f1 _ _ rfl (by decide) (by decide) (by decide) (by decide) (by omega), fun k _ => by rw [up_na (by decide)]; exact f1 _ _ rfl (by decide) (by decide) (by decide) (by decide) (by omega)⟩
  have hX2 := hX.mp w1.1.mp
  have hN2 := hN6.ww w1
  refine ⟨by omega, hX2, hN2, fun J2 hp2 => ?_⟩
  obtain ⟨f2, p2, p3⟩ := hp2
  have hmn : Mp (up J 350 6 (t : Int)) (up J1 350 6 (t : Int)) := (kp6 J t).mp.symm.trans w1.1.mp
  have esp : spOf (up J1 350 6 (t : Int)) 6 known = spOf (up J 350 6 (t : Int)) 6 known := spOf_cg (hX.mp (kp6 J t).mp) hmn (by rw [w1.2.1, up_na (by decide)]) (fun i hi => by rw [up_na (by decide)] at hi; rw [w1.2.2 i hi, up_na (by decide)]) known
  rw [esp] at p2 p3
  have hin := spOf_in (n := 6) (hX.mp (kp6 J t).mp) (hN6.ww ⟨kp6 J t, up_na (by decide), fun k _ => up_na (by decide)⟩) known
  generalize hNl : (tkU J known 0 (J 313 55).toNat).length = N at e1 e2 e3
  have et : J2 313 64 = (N : Int) := by rw [f2 _ _ (by omega) (by omega) (by decide), up_na (by decide)]; exact e1
  have hlen := tkU_len J known 0 (J 313 55).toNat
  have hN1 := hN.1
  rw [et, Int.toNat_natCast]
  (repeat' (first | ((with_reducible refine And.intro ?_ ?_); omega)))
  generalize hJ3 : up (up J2 356 N 6) 313 64 ((N : Int) + 1) = J3
  have g3 : ∀ b k, b ≠ 356 → ¬ (b = 313 ∧ k = 64) → ¬ (b = 353 ∧ 8 * 6 ≤ k ∧ k < 8 * 6 + 8) → ¬ (b = 354 ∧ k = 6) → b ≠ 355 → ¬ (b = 350 ∧ k = 6) → J3 b k = J1 b k := by
    intro b k q1 q2 q3 q4 q5 q6
    rw [← hJ3, up_ne q2, up_na q1, f2 b k q3 q4 q5, up_ne q6]
  have w3 : wwF J J3 := by
    refine ⟨?_, ?_, fun k _ => ?_⟩
    · rw [← hJ3]; exact ((w1.1.trans f2.kp).up rfl).up rfl
    · rw [g3 _ _ (by decide) (by omega) (by omega) (by omega) (by decide) (by omega)]
      exact f1 _ _ rfl (by decide) (by decide) (by decide) (by decide) (by omega)
    · rw [g3 _ _ (by decide) (by omega) (by omega) (by omega) (by decide) (by omega)]
      exact f1 _ _ rfl (by decide) (by decide) (by decide) (by decide) (by omega)
  have hgd : ∀ j, j < N → (tkL J known 0 ++ [6]).getD j 0 = (tkL J known 0).getD j 0 ∧ (((tkL J known 0).getD j 0 : Nat) : Int) < J 313 55 := fun j hj => ⟨getD_app_l (by rw [← hNl] at hj; exact hj), tkL_lt hN (by rw [← hNl] at hj; exact hj)⟩
  have hgN : (tkL J known 0 ++ [6]).getD N 0 = 6 := by rw [← hNl]; exact getD_app_r
  have hE : EnvAt J3 (envOf (up J 350 6 (t : Int)) known (tkL J known 0 ++ [6])) (N + 1) := by
    refine ⟨by rw [← hJ3, up_self]; push_cast; rfl, by omega, fun j hj => ?_, fun s hs => ?_, fun s o hs ho c d hc hd => ?_⟩
    · have dat : ∃ t' : Nat, (J3 356 j = (((tkL J known 0 ++ [6]).getD j 0 : Nat) : Int) ∧ (tkL J known 0 ++ [6]).getD j 0 < 7) ∧ (up J 350 6 (t : Int)) 350 ((tkL J known 0 ++ [6]).getD j 0) = (t' : Int) ∧ J3 350 ((tkL J known 0 ++ [6]).getD j 0) = (t' : Int) ∧ (t' : Int) < J 313 2 ∧ CsAt J3 ((tkL J known 0 ++ [6]).getD j 0) (spOf (up J 350 6 (t : Int)) ((tkL J known 0 ++ [6]).getD j 0) known) := by
        by_cases e : j = N
        · subst e
          rw [hgN]
          exact ⟨t, ⟨by rw [← hJ3, up_na (by decide), up_self]; rfl, by omega⟩, up_self, by rw [← hJ3, up_na (by decide), up_na (by decide), f2 _ _ (by omega) (by omega) (by decide), up_self], ht, ⟨by rw [← hJ3, up_na (by decide), up_na (by decide)]; exact p2, hin.2, fun i hi => ⟨by rw [← hJ3, up_na (by decide), up_na (by decide)]; exact p3 i hi, (hin.1 i).1⟩⟩⟩
        · obtain ⟨a1, a2, a3, a4, a5⟩ := e3 j (by omega)
          obtain ⟨g1, g2⟩ := hgd j (by omega)
          have a1' : J1 356 j = (((tkL J known 0).getD j 0 : Nat) : Int) ∧ (tkL J known 0).getD j 0 < 7 := a1
          have a2' : J1 350 ((tkL J known 0).getD j 0) = (((J 350 ((tkL J known 0).getD j 0)).toNat : Nat) : Int) ∧ (J 350 ((tkL J known 0).getD j 0)).toNat < 24 := a2
          have a3' : CsAt J1 ((tkL J known 0).getD j 0) (spOf J ((tkL J known 0).getD j 0) known) := a3
          rw [g1]
          generalize (tkL J known 0).getD j 0 = q at g2 a1' a2' a3'
          obtain ⟨n1, n2⟩ := hN.2 q g2
          refine ⟨(J 350 q).toNat, ⟨by rw [← hJ3, up_na (by decide), up_nk e, f2 _ _ (by omega) (by omega) (by decide), up_na (by decide)]; exact a1'.1, by omega⟩, by rw [up_nk (by omega)]; omega, by rw [g3 _ _ (by decide) (by omega) (by omega) (by omega) (by decide) (by omega)]; exact a2'.1, by omega, ?_⟩
          rw [spOf_mp hX n1 (by omega) (kp6 J t).mp]
          obtain ⟨d1, d2, d3⟩ := a3'
          refine ⟨by rw [g3 _ _ (by decide) (by omega) (by omega) (by omega) (by decide) (by omega)]; exact d1, d2, fun i hi => ⟨by rw [g3 _ _ (by decide) (by omega) (by omega) (by omega) (by decide) (by omega)]; exact (d3 i hi).1, (d3 i hi).2⟩⟩
      obtain ⟨t', b1, b3, b4, b5, b6⟩ := dat
      have ht' := hT.2 t' b5
      have er : J3 316 t' = J 316 t' := w3.1 _ _ (by unfold scr; simp; omega)
      have eT : (envOf (up J 350 6 (t : Int)) known (tkL J known 0 ++ [6])).tb j = t' := by
        show ((up J 350 6 (t : Int)) 350 ((tkL J known 0 ++ [6]).getD j 0)).toNat = t'
        rw [b3, Int.toNat_natCast]
      have eR : (envOf (up J 350 6 (t : Int)) known (tkL J known 0 ++ [6])).rw t' = (J 316 t').toNat := by
        show ((up J 350 6 (t : Int)) 316 t').toNat = _
        rw [up_na (by decide)]
      rw [eT, eR]
      refine ⟨b1, ⟨b4, by omega⟩, b6, ⟨by rw [er]; omega, by omega⟩, fun u hu => ?_⟩
      obtain ⟨z1, z2⟩ := ht'.2 u (by omega)
      have eS : (envOf (up J 350 6 (t : Int)) known (tkL J known 0 ++ [6])).sz (8 * t' + u) = (J 317 (8 * t' + u)).toNat := by
        show ((up J 350 6 (t : Int)) 317 (8 * t' + u)).toNat = _
        rw [up_na (by decide)]
      have eP : ∀ i, (envOf (up J 350 6 (t : Int)) known (tkL J known 0 ++ [6])).pl (8 * t' + u) i = J 318 (6 * (8 * t' + u) + i) := fun i => by
        show (up J 350 6 (t : Int)) 318 (6 * (8 * t' + u) + i) = _
        rw [up_na (by decide)]
      rw [eS]
      refine ⟨by rw [w3.1 317 (8 * t' + u) (by unfold scr; simp; omega)]; omega, by omega, fun i hi => ?_⟩
      rw [eP]
      exact ⟨w3.1 _ _ (by unfold scr; simp; omega), z2 i (by omega)⟩
    · have := e4.1 s hs
      rw [g3 _ _ (by decide) (by omega) (by omega) (by omega) (by decide) (by omega)]
      show J1 332 s = ((labOf (EH (up J 350 6 (t : Int)) known) s : Nat) : Int) ∧ labOf (EH (up J 350 6 (t : Int)) known) s < 40
      rw [EH_mp (kp6 J t).mp known]
      exact this
    · have := e4.2 s o hs ho c d hc hd
      show agJ J3 s c o d = agB (up J 350 6 (t : Int)) known s c o d
      rw [agB_mp hT hX (kp6 J t).mp known]
      refine Eq.trans ?_ this
      unfold agJ
      rw [g3 343 _ (by decide) (by omega) (by omega) (by omega) (by decide) (by omega), g3 343 _ (by decide) (by omega) (by omega) (by omega) (by decide) (by omega), g3 343 _ (by decide) (by omega) (by omega) (by omega) (by decide) (by omega), g3 343 _ (by decide) (by omega) (by omega) (by omega) (by decide) (by omega), g3 342 _ (by decide) (by omega) (by omega) (by omega) (by decide) (by omega), g3 342 _ (by decide) (by omega) (by omega) (by omega) (by decide) (by omega)]
  refine s_goes6 hL known _ _ hE (fun J4 f4 e9 => ?_)
  refine v_forget (fg_some (fg_none (fg_none fg_nil))) (gX5_waysWith_49 hL ?_)
  rw [e9]
  have hNL : N = (tkL J known 0).length := hNl.symm
  rw [hNL]
  refine K J4 (w3.trans ⟨f4.kp, f4 _ _ (by unfold gtS; omega), fun k _ => f4 _ _ (by unfold gtS; omega)⟩)

/-- the tape's name is taken for the new one -/
def nwJ (J : Jm) : Jm := fun b k => if b = 313 ∧ k = 16 then 0 else if b = 348 ∧ k = 6 then J 313 16 else if b = 349 ∧ 48 ≤ k ∧ (k : Int) - 48 < J 313 16 then J 325 (k - 48) else J b k
theorem nwJ_mi {J : Jm} (h : MI0 J) : MI0 (nwJ J) := h.mt (fun b k q e => by
  unfold nwJ
  rw [if_neg e, if_neg (fun z => by obtain ⟨rfl, rfl⟩ := z; cases q), if_neg (fun z => by obtain ⟨rfl, z1, -⟩ := z; unfold mper scr at q; simp at q; omega)])
theorem nwJ_n6 {J : Jm} (h : NameB J) : NamAt (nwJ J) 6 := by
  have e1 : nwJ J 348 6 = J 313 16 := by unfold nwJ; rw [if_neg (by omega), if_pos ⟨rfl, rfl⟩]
  refine ⟨by rw [e1]; exact h.1, fun i hi => ?_⟩
  rw [e1] at hi
  have e2 : nwJ J 349 (8 * 6 + i) = J 325 i := by
    unfold nwJ
    rw [if_neg (by omega), if_neg (by omega), if_pos ⟨rfl, by omega, by omega⟩, show 8 * 6 + i - 48 = i by omega]
  rw [e2]
  exact h.2 i hi
/-- the tape is empty, all else that lasts is as it was -/
def t0F (J J' : Jm) : Prop := J' 313 16 = 0 ∧ ∀ b k, scr b k = false → ¬ (b = 313 ∧ k = 16) → J' b k = J b k
theorem nwJ_t0 {J J' : Jm} (f : Kp (nwJ J) J') : t0F J J' := by
  refine ⟨by rw [f _ _ rfl]; unfold nwJ; rw [if_pos ⟨rfl, rfl⟩], fun b k q e => ?_⟩
  rw [f b k q]
  unfold nwJ
  rw [if_neg e, if_neg (fun z => by obtain ⟨rfl, rfl⟩ := z; cases q), if_neg (fun z => by obtain ⟨rfl, z1, -⟩ := z; unfold scr at q; simp at q; omega)]
theorem PTn.nw {J J' : Jm} {t : Int} (h : PTn (up J 313 0 0) 6 t J') : wwF (nwJ J) J' := by
  obtain ⟨f, e1, e2, e3, e4⟩ := h
  rw [up_nk (by decide)] at e1 e2
  refine ⟨fun b k q => ?_, ?_, fun i hi => ?_⟩
  · by_cases e : b = 313 ∧ k = 16
    · obtain ⟨rfl, rfl⟩ := e
      rw [e4]; unfold nwJ; rw [if_pos ⟨rfl, rfl⟩]
    · have q1 : ¬ ((b = 348 ∨ b = 350) ∧ k = 6) := fun z => by rcases z with ⟨rfl | rfl, rfl⟩ <;> cases q
      have q2 : ¬ (b = 349 ∧ 8 * 6 ≤ k ∧ k < 8 * 6 + 8) := fun z => by obtain ⟨rfl, z1, -⟩ := z; unfold scr at q; simp at q; omega
      rw [f b k q1 q2 e, up_ne (fun z => by obtain ⟨rfl, rfl⟩ := z; cases q)]
      unfold nwJ
      rw [if_neg e, if_neg (fun z => q1 ⟨Or.inl z.1, z.2⟩), if_neg (fun z => by obtain ⟨rfl, z1, -⟩ := z; unfold scr at q; simp at q; omega)]
  · rw [e1]; unfold nwJ; rw [if_neg (by omega), if_pos ⟨rfl, rfl⟩]
  · have e9 : nwJ J 348 6 = J 313 16 := by unfold nwJ; rw [if_neg (by omega), if_pos ⟨rfl, rfl⟩]
    rw [e9] at hi
    rw [e2 i hi, up_na (by decide)]
    unfold nwJ
    rw [if_neg (by omega), if_neg (by omega), if_pos ⟨rfl, by omega, by omega⟩, show 8 * 6 + i - 48 = i by omega]
theorem nameB0 {J : Jm} : NameB (up J 313 0 0) ↔ NameB J := by
  unfold NameB
  simp only [up_nk (show (16 : Nat) ≠ 0 by decide), up_na (show 325 ≠ 313 by decide)]
def wdOk (J : Jm) (known t : Int) : Prop := kno J known ∧ (0 ≤ t ∧ t ≤ J 313 2 - 1) ∧ tabB J known t.toNat = true ∧ NameB J
theorem m_would {w : Wd} {S : Sh} {J : Jm} {Q : Out → Sh → Jm → Prop} (hL : Lay S) (known t : Int) (h : MI0 J) (K0 : ¬ wdOk J known t → ∀ J', Kp J J' → Q (.inl (some (vI (-1)))) S J') (K1 : wdOk J known t → ∀ J', t0F J J' → Q (.inl (some (vI ((wnL (nwJ J) known t.toNat).length : Nat)))) S J') : V w 6 mX5_would 0 (ent mX5_would [vR 313, vI known, vI t]) [] S J Q := by
  have hT1 := h.2.1.1
  have e1 : ∀ k, (up J 313 0 0) 314 k = J 314 k := fun k => up_na (by decide)
  have e2 : ∀ k, (up J 313 0 0) 315 k = J 315 k := fun k => up_na (by decide)
  unfold wdOk at K0 K1
  refine gX5_would_0 hL known t (br_i (fun h1 => ⟨by omega, br_i (fun h2 => ⟨by omega, ?_⟩) (fun h2 => K0 (fun q => h2 q.2.1) _ (k0 J))⟩) (fun h1 => K0 (fun q => h1 q.1) _ (k0 J)))
  rw [e1, e2]
  refine br_i (fun h3 => br_i (fun h4 => ?_) (fun h4 => K0 (fun q => h4 (nameB0.mpr q.2.2.2)) _ (k0 J))) (fun h3 => K0 (fun q => h3 (of_decide_eq_true q.2.2.1)) _ (k0 J))
  have hB := nameB0.mp h4
  have K2 := K1 ⟨h1, h2, decide_eq_true h3, hB⟩
  obtain ⟨t, rfl⟩ : ∃ m : Nat, t = m := ⟨t.toNat, by omega⟩
  rw [Int.toNat_natCast] at K2
  refine s_takesName hL 6 (t : Int) (by omega) h4.1 (fun J1 hp => ?_)
  have hw := PTn.nw hp
  have hmi := nwJ_mi h
  have et : nwJ J 313 2 = J 313 2 := by unfold nwJ; rw [if_neg (by omega), if_neg (by omega), if_neg (by omega)]
  have et1 : J1 313 2 = J 313 2 := (hw.1 _ _ rfl).trans et
  refine gX5_would_52 hL known (t : Int) ?_
  refine s_waysWith hL known t (hmi.mp hw.1.mp) (by omega) ((nwJ_n6 hB).ww hw) (fun J2 f2 => ?_)
  refine v_forget (fg_none (fg_none (fg_none fg_nil))) (gX5_would_58 hL _ ?_)
  rw [wnL_eq hmi hw known (by omega)]
  exact K2 J2 (nwJ_t0 (hw.1.trans f2.1))
def wreN (J : Jm) (known : Int) (f : Nat → Nat) : Nat → Int × Int
  | 0 => (-1, 0)
  | t + 1 => if tabB J known t = true ∧ ¬ f t = 0 ∧ ((wreN J known f t).1 = -1 ∨ ((f t : Nat) : Int) < (wreN J known f t).2) then ((t : Int), ((f t : Nat) : Int)) else wreN J known f t
noncomputable def rWhere (J : Jm) (known : Int) : Int := (wreN J known (fun t => (wnL (nwJ J) known t).length) (J 313 2).toNat).1
theorem m_where {w : Wd} {S : Sh} {J : Jm} {Q : Out → Sh → Jm → Prop} (hL : Lay S) (known : Int) (h : MI0 J) (K0 : ¬ (kno J known ∧ NameB J) → ∀ J', Kp J J' → Q (.inl (some (vI (-1)))) S J') (K1 : (kno J known ∧ NameB J) → ∀ J', t0F J J' → Q (.inl (some (vI (rWhere J known)))) S J') : V w 6 mX5_where 0 (ent mX5_where [vR 313, vI known]) [] S J Q := by
  have hT1 := h.2.1.1
  refine gX5_where_0 hL known (br_i (fun h1 => br_i (fun h4 => ?_) (fun h4 => K0 (fun q => h4 (nameB0.mpr q.2)) _ (k0 J))) (fun h1 => K0 (fun q => h1 q.1) _ (k0 J)))
  have hB := nameB0.mp h4
  have K2 := K1 ⟨h1, hB⟩
  unfold rWhere at K2
  obtain ⟨N, eN⟩ : ∃ N : Nat, J 313 2 = N := ⟨(J 313 2).toNat, by omega⟩
  rw [eN, Int.toNat_natCast] at K2
  refine s_takesName hL 6 0 (by omega) h4.1 (fun J1 hp => ?_)
  have hw := PTn.nw hp
  have hmi := nwJ_mi h
  have et : nwJ J 313 2 = (N : Int) := by unfold nwJ; rw [if_neg (by omega), if_neg (by omega), if_neg (by omega)]; exact eN
  refine gX5_where_29 hL known ?_
  generalize hf : (fun t => (wnL (nwJ J) known t).length) = f at K2
  have loop : ∀ (m t : Nat) (J2 : Jm), t + m = N → wwF (nwJ J) J2 → V w 6 mX5_where 36 [some (vR 313), some (vI known), some (vI (wreN J known f t).1), some (vI (wreN J known f t).2), some (vI (t : Int)), none] [] S J2 Q := by
    intro m
    induction m with
    | zero =>
      intro t J2 ht f2
      obtain rfl : t = N := by omega
      have e1 : J2 313 2 = (t : Int) := (f2.1 _ _ rfl).trans et
      exact gX5_where_36 (J := J2) hL known _ _ t (br_y (by omega) (K2 J2 (nwJ_t0 f2.1)))
    | succ m ih =>
      intro t J2 ht f2
      have e1 : J2 313 2 = (N : Int) := (f2.1 _ _ rfl).trans et
      have c1 : J2 314 t = J 314 t := by rw [(nwJ_t0 f2.1).2 _ _ rfl (by omega)]
      have c2 : J2 315 t = J 315 t := by rw [(nwJ_t0 f2.1).2 _ _ rfl (by omega)]
      have eW : wreN J known f (t + 1) = if tabB J known t = true ∧ ¬ f t = 0 ∧ ((wreN J known f t).1 = -1 ∨ ((f t : Nat) : Int) < (wreN J known f t).2) then ((t : Int), ((f t : Nat) : Int)) else wreN J known f t := rfl
      refine gX5_where_36 (J := J2) hL known _ _ t (br_n (by omega) ⟨by omega, ?_⟩)
      rw [c1, c2]
      refine br_i (fun q => ?_) (fun q => ⟨by omega, ?_⟩)
      · refine s_waysWith hL known t (hmi.mp f2.1.mp) (by omega) ((nwJ_n6 hB).ww f2) (fun J3 f3 => ?_)
        rw [wnL_eq hmi f2 known (by omega)]
        have ef : (wnL (nwJ J) known t).length = f t := by rw [← hf]
        rw [ef]
        have nxt := ih (t + 1) J3 (by omega) (f2.trans f3)
        have htb : tabB J known t = true := decide_eq_true q
        refine gX5_where_65 (J := J3) hL known _ _ t _ (br_i (fun r0 => ⟨by omega, ?_⟩) (fun r0 => br_i (fun r1 => ⟨by omega, ?_⟩) (fun r1 => br_i (fun r2 => ⟨by omega, ?_⟩) (fun r2 => ⟨by omega, ?_⟩))))
        · rw [if_neg (fun z => z.2.1 (by omega))] at eW
          rw [eW] at nxt; exact nxt
        · rw [if_pos ⟨htb, by omega, Or.inl r1⟩] at eW
          rw [eW] at nxt; exact nxt
        · rw [if_pos ⟨htb, by omega, Or.inr r2⟩] at eW
          rw [eW] at nxt; exact nxt
        · rw [if_neg (fun z => z.2.2.elim r1 r2)] at eW
          rw [eW] at nxt; exact nxt
      · have nxt := ih (t + 1) J2 (by omega) f2
        rw [if_neg (fun z => q (of_decide_eq_true z.1))] at eW
        rw [eW] at nxt; exact nxt
  exact loop N 0 J1 (by omega) hw
