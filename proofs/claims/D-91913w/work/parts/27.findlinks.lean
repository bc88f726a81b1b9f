/-! the model: findLinks, its contract -/
set_option maxRecDepth 100000

def GLk (J : Jm) (known : Int) (J' : Jm) : Prop := FLk J J' ∧ (∀ s : Nat, s < 40 → J' 332 s = (labOf (EH J known) s : Nat)) ∧ PWh J' (WH J known)
theorem PWh.fr {J J' : Jm} {L : List (List Int)} (h : PWh J L) (h0 : J' 313 39 = J 313 39) (h1 : ∀ k, J' 339 k = J 339 k) (h2 : ∀ k, J' 340 k = J 340 k) : PWh J' L := by
  refine ⟨by rw [h0]; exact h.1, fun i hi => ?_⟩
  rw [h1, wrow_fr h1 h2]
  exact h.2 i hi
theorem GLk.step {J J1 J2 : Jm} {known : Int} (h : GLk J known J1) (hf : ∀ a k, a ≠ 341 → a ≠ 342 → a ≠ 343 → a ≠ 344 → J2 a k = J1 a k) : GLk J known J2 := by
  obtain ⟨h1, h2, h3⟩ := h
  refine ⟨fun a k q => ?_, fun s hs => by rw [hf _ _ (by decide) (by decide) (by decide) (by decide)]; exact h2 s hs, h3.fr (hf _ _ (by decide) (by decide) (by decide) (by decide)) (fun k => hf _ _ (by decide) (by decide) (by decide) (by decide)) (fun k => hf _ _ (by decide) (by decide) (by decide) (by decide))⟩
  rw [hf a k (fun e => by rw [e] at q; cases q) (fun e => by rw [e] at q; cases q) (fun e => by rw [e] at q; cases q) (fun e => by rw [e] at q; cases q)]
  exact h1 a k q
theorem b01_step {z z' : Int} {P P' C : Prop} (h : B01 z P) (hz : (C ∧ z' = 1) ∨ (¬ C ∧ z' = z)) (hP : P' ↔ (P ∨ C)) : B01 z' P' := by
  rcases hz with ⟨c, e⟩ | ⟨c, e⟩
  · exact Or.inl ⟨e, hP.mpr (Or.inr c)⟩
  · rw [e]
    exact h.iff (by rw [hP]; exact ⟨Or.inl, fun q => q.elim id (fun q => absurd q c)⟩)
theorem CLk_succ {J : Jm} {L : List (List Int)} {t o u v C : Nat} : CLk J L t o u v (C + 1) ↔ (CLk J L t o u v C ∨ (J 321 (12 * t + C) = o ∧ J 324 (12 * t + C) ≤ (cntP u v (tpOf J (12 * t + C) L) : Nat))) := by
  constructor
  · rintro ⟨c, h1, h2⟩
    rcases Nat.lt_or_ge c C with q | q
    · exact Or.inl ⟨c, q, h2⟩
    · obtain rfl : c = C := by omega
      exact Or.inr h2
  · rintro (⟨c, h1, h2⟩ | h2)
    · exact ⟨c, by omega, h2⟩
    · exact ⟨C, by omega, h2⟩
def SH1 (J : Jm) (known is : Int) (o u v k : Nat) : Prop := (J 337 k ≤ known ∧ known < J 338 k) ∧ J 333 k = o ∧ J 336 k = is ∧ shA J known k ≠ shB J known k ∧ ((u = shA J known k ∧ v = shB J known k) ∨ (u = shB J known k ∧ v = shA J known k))
theorem SHk_succ {J : Jm} {known is : Int} {o u v K : Nat} : SHk J known is o u v (K + 1) ↔ (SHk J known is o u v K ∨ SH1 J known is o u v K) := by
  constructor
  · rintro ⟨c, h1, h2⟩
    rcases Nat.lt_or_ge c K with q | q
    · exact Or.inl ⟨c, q, h2⟩
    · obtain rfl : c = K := by omega
      exact Or.inr h2
  · rintro (⟨c, h1, h2⟩ | h2)
    · exact ⟨c, by omega, h2⟩
    · exact ⟨K, by omega, h2⟩
theorem s_findLinks {w : Wd} {S : Sh} {J : Jm} {Q : Out → Sh → Jm → Prop} (hL : Lay S) (known : Int) (hH : MHeld J) (hT : MTab J) (hX : MTxt J) (hS : MShr J) (K : ∀ J', PLk J known J' → Q (.inl none) S J') : V w 3 mX5_findLinks 0 (ent mX5_findLinks [vR 313, vI known]) [] S J Q := by
  obtain ⟨SN, hSN⟩ : ∃ n : Nat, J 313 32 = n := ⟨(J 313 32).toNat, by have := hS.1; omega⟩
  have hlab : ∀ s, s < 40 → labOf (EH J known) s < 40 := fun s hs => lab40 _ hs
  have hWin := WH_in hT (st := stI J known) (fun s hs => by unfold stI; have := hlab s hs; omega) known
  -- behind the shares
  have last : ∀ J6 : Jm, GLk J known J6 → (∀ o u v : Nat, o < 2 → u < 40 → v < 40 → B01 (J6 341 (1600 * o + 40 * u + v)) (LK J known o u v)) → (∀ o u v : Nat, o < 2 → u < 40 → v < 40 → B01 (J6 342 (1600 * o + 40 * u + v)) (PT J known o u v)) → V w 3 mX5_findLinks 95 [some (vR 313), some (vI known), none, some (vI (SN : Int)), none, none] [] S J6 Q := by
    intro J6 g6 l6 p6
    refine gX5_findLinks_95 (J := J6) hL known SN (br_y (by rw [g6.1 _ _ rfl]; omega) ?_)
    have hlk : ∀ o u v, o < 2 → (lkE J6 o u v ↔ (u < 40 ∧ v < 40 ∧ LK J known o u v)) := by
      intro o u v ho
      unfold lkE
      constructor
      · rintro ⟨h1, h2, h3⟩
        exact ⟨h1, h2, (l6 o u v ho h1 h2).one.mp h3⟩
      · rintro ⟨h1, h2, h3⟩
        exact ⟨h1, h2, (l6 o u v ho h1 h2).one.mpr h3⟩
    refine s_findClasses hL (fun p hp => ?_) (fun o u v ho h => ?_) (fun J7 f7 c7 => ?_)
    · have := l6 (p / 1600) (p % 1600 / 40) (p % 40) (by omega) (by omega) (by omega)
      rw [show 1600 * (p / 1600) + 40 * (p % 1600 / 40) + p % 40 = p by omega] at this
      rcases this with q | q
      · exact Or.inr q.1
      · exact Or.inl q.1
    · have := (hlk o u v ho).mp h
      exact (hlk o v u ho).mpr ⟨this.2.1, this.1, LK_sym this.2.2⟩
    · show V w 3 mX5_findLinks 244 _ [] S J7 Q
      refine v_forget (fg_none (fg_none (fg_none (fg_none (fg_none (fg_none fg_nil)))))) (gX5_findLinks_244 (J := J7) hL ?_)
      have g7 := g6.step (J2 := J7) (fun a k _ _ q _ => f7 a k q)
      refine K J7 ⟨g7.1, g7.2.1, g7.2.2, fun o u v ho hu hv => by rw [f7 _ _ (by decide)]; exact l6 o u v ho hu hv, fun o u v ho hu hv => by rw [f7 _ _ (by decide)]; exact p6 o u v ho hu hv, fun o s ho hs => ?_⟩
      rw [c7 o s ho hs]
      congr 2
      funext u v
      exact propext (hlk o u v ho)
  -- the shares
  have shares : ∀ J5 : Jm, GLk J known J5 → (∀ o u v : Nat, o < 2 → u < 40 → v < 40 → B01 (J5 341 (1600 * o + 40 * u + v)) (LKc J known o u v)) → (∀ p : Nat, p < 3200 → J5 342 p = 0) → V w 3 mX5_findLinks 95 [some (vR 313), some (vI known), none, some (vI ((0 : Nat) : Int)), none, none] [] S J5 Q := by
    intro J5 g5 l5 p5
    refine up_loop (P := fun k J6 => GLk J known J6 ∧ (∀ o u v : Nat, o < 2 → u < 40 → v < 40 → B01 (J6 341 (1600 * o + 40 * u + v)) (LKc J known o u v ∨ SHk J known 1 o u v k)) ∧ (∀ o u v : Nat, o < 2 → u < 40 → v < 40 → B01 (J6 342 (1600 * o + 40 * u + v)) (SHk J known 0 o u v k))) SN
      (fun k J6 => V w 3 mX5_findLinks 95 [some (vR 313), some (vI known), none, some (vI (k : Int)), none, none] [] S J6 Q) ?_ ?_ 0 J5 (by omega) ⟨g5, fun o u v ho hu hv => (l5 o u v ho hu hv).iff ⟨Or.inl, fun q => q.elim id (fun q => by obtain ⟨k, hk, -⟩ := q; omega)⟩, fun o u v ho hu hv => Or.inr ⟨p5 _ (by omega), fun q => by obtain ⟨k, hk, -⟩ := q; omega⟩⟩
    · intro k J6 hk ⟨g6, l6, p6⟩ ih
      have h := hS.2 k (by omega)
      have hS1 := hS.1
      have eN : J6 313 32 = SN := by rw [g6.1 _ _ rfl]; exact hSN
      have eA : J6 334 k = J 334 k := g6.1 _ _ rfl
      have eB : J6 335 k = J 335 k := g6.1 _ _ rfl
      have eC : J6 337 k = J 337 k := g6.1 _ _ rfl
      have eW : J6 338 k = J 338 k := g6.1 _ _ rfl
      have eS : J6 333 k = J 333 k := g6.1 _ _ rfl
      have eI : J6 336 k = J 336 k := g6.1 _ _ rfl
      have sA : J6 332 (J 334 k).toNat = (shA J known k : Nat) := g6.2.1 _ (by omega)
      have sB : J6 332 (J 335 k).toNat = (shB J known k : Nat) := g6.2.1 _ (by omega)
      have bA : shA J known k < 40 := hlab _ (by omega)
      have bB : shB J known k < 40 := hlab _ (by omega)
      obtain ⟨o0, ho0⟩ : ∃ n : Nat, J 333 k = n := ⟨(J 333 k).toNat, by omega⟩
      refine gX5_findLinks_95 (J := J6) hL known k (br_n (by omega) ?_)
      repeat' (first | (refine And.intro ?_ ?_; omega))
      rw [eA, eB, eC, eW, eS, eI, sA, sB, ho0]
      have skip : ¬ ((J 337 k ≤ known ∧ known < J 338 k) ∧ shA J known k ≠ shB J known k) → V w 3 mX5_findLinks 95 [some (vR 313), some (vI known), none, some (vI ((k + 1 : Nat) : Int)), none, none] [] S J6 Q := by
        intro hn
        have hn1 : ∀ is o u v, ¬ SH1 J known is o u v k := fun is o u v q => hn ⟨q.1, q.2.2.2.1⟩
        refine ih J6 ⟨g6, fun o u v ho hu hv => (l6 o u v ho hu hv).iff ?_, fun o u v ho hu hv => (p6 o u v ho hu hv).iff ?_⟩
        · rw [SHk_succ]
          have := hn1 1 o u v
          constructor
          · rintro (q | q)
            · exact Or.inl q
            · exact Or.inr (Or.inl q)
          · rintro (q | q | q)
            · exact Or.inl q
            · exact Or.inr q
            · exact absurd q this
        · rw [SHk_succ]
          exact ⟨Or.inl, fun q => q.elim id (fun q => absurd q (hn1 0 o u v))⟩
      refine br_i (fun hb => ⟨by omega, skip (fun q => q.2 (by omega))⟩) (fun hb => ?_)
      repeat' (first | (refine And.intro ?_ ?_; omega))
      refine br_i (fun hb2 => ?_) (fun hb2 => ⟨by omega, skip (fun q => hb2 q.1)⟩)
      repeat' (first | (refine And.intro ?_ ?_; omega))
      refine br_i (fun hb3 => ?_) (fun hb3 => ?_)
      · repeat' (first | (refine And.intro ?_ ?_; omega))
        rw [show ((1600 * (o0 : Int) + 40 * (shA J known k : Int)) + (shB J known k : Int)).toNat = 1600 * o0 + 40 * shA J known k + shB J known k by omega, show ((1600 * (o0 : Int) + 40 * (shB J known k : Int)) + (shA J known k : Int)).toNat = 1600 * o0 + 40 * shB J known k + shA J known k by omega]
        refine ih _ ⟨g6.step (fun a j q1 q2 _ _ => by rw [up_na q2, up_na q2]), fun o u v ho hu hv => ?_, fun o u v ho hu hv => ?_⟩
        · rw [up_na (by decide), up_na (by decide)]
          refine (l6 o u v ho hu hv).iff ?_
          rw [SHk_succ]
          have : ¬ SH1 J known 1 o u v k := fun q => by have := q.2.2.1; omega
          constructor
          · rintro (q | q)
            · exact Or.inl q
            · exact Or.inr (Or.inl q)
          · rintro (q | q | q)
            · exact Or.inl q
            · exact Or.inr q
            · exact absurd q this
        · refine b01_step (p6 o u v ho hu hv) (C := SH1 J known 0 o u v k) ?_ SHk_succ
          unfold up
          simp only [true_and]
          by_cases hC : o = o0 ∧ ((u = shA J known k ∧ v = shB J known k) ∨ (u = shB J known k ∧ v = shA J known k))
          · refine Or.inl ⟨⟨hb2, by omega, by omega, by omega, hC.2⟩, ?_⟩
            by_cases h1 : 1600 * o + 40 * u + v = 1600 * o0 + 40 * shB J known k + shA J known k
            · rw [if_pos h1]
            · rw [if_neg h1, if_pos (by omega)]
          · refine Or.inr ⟨fun q => hC ⟨by have := q.2.1; omega, q.2.2.2.2⟩, ?_⟩
            rw [if_neg (by omega), if_neg (by omega)]
      · repeat' (first | (refine And.intro ?_ ?_; omega))
        show V w 3 mX5_findLinks 95 [some (vR 313), some (vI known), none, some (vI ((k + 1 : Nat) : Int)), none, none] [] S (lnkUp J6 o0 (shA J known k) (shB J known k)) Q
        refine ih _ ⟨g6.step (fun a j q1 _ _ _ => lnkUp_na q1), fun o u v ho hu hv => ?_, fun o u v ho hu hv => ?_⟩
        · refine b01_step (l6 o u v ho hu hv) (C := SH1 J known 1 o u v k) ?_ (by rw [SHk_succ, or_assoc])
          rw [lnkUp_at (by omega) bA bB ho hu hv]
          by_cases hC : o = o0 ∧ ((u = shA J known k ∧ v = shB J known k) ∨ (u = shB J known k ∧ v = shA J known k))
          · exact Or.inl ⟨⟨hb2, by omega, by omega, by omega, hC.2⟩, if_pos hC⟩
          · exact Or.inr ⟨fun q => hC ⟨by have := q.2.1; omega, q.2.2.2.2⟩, if_neg hC⟩
        · rw [lnkUp_na (by decide)]
          refine (p6 o u v ho hu hv).iff ?_
          rw [SHk_succ]
          exact ⟨Or.inl, fun q => q.elim id (fun q => by have := q.2.2.1; omega)⟩
    · intro J6 ⟨g6, l6, p6⟩
      refine last J6 g6 (fun o u v ho hu hv => ?_) (fun o u v ho hu hv => ?_)
      · unfold LK
        rw [hSN]
        exact l6 o u v ho hu hv
      · unfold PT
        rw [hSN]
        exact p6 o u v ho hu hv
  -- the clauses
  have clauses : ∀ J4 : Jm, GLk J known J4 → (∀ p : Nat, p < 3200 → J4 341 p = 0 ∧ J4 342 p = 0) → V w 3 mX5_findLinks 47 [some (vR 313), some (vI known), some (vI (rbOf J known)), some (vI ((0 : Nat) : Int)), none, none] [] S J4 Q := by
    intro J4 g4 z4
    by_cases hr : rbOf J known = -1
    · refine gX5_findLinks_47 (J := J4) hL known _ 0 (br_y hr ?_)
      exact shares J4 g4 (fun o u v ho hu hv => Or.inr ⟨(z4 _ (by omega)).1, fun q => q.1 hr⟩) (fun p hp => (z4 p hp).2)
    · have hin := rbN_in J known (J 313 8).toNat
      have hX1 := hX.1
      obtain ⟨T, hTe⟩ : ∃ n : Nat, rbOf J known = n := ⟨(rbOf J known).toNat, by unfold rbOf at hr ⊢; omega⟩
      have hTt : (T : Int) < J 313 8 := by unfold rbOf at hTe; omega
      have hXT := hX.2 T hTt
      obtain ⟨CN, hCN⟩ : ∃ n : Nat, J 320 T = n := ⟨(J 320 T).toNat, by omega⟩
      rw [hTe]
      refine up_loop (P := fun c J5 => GLk J known J5 ∧ (∀ o u v : Nat, o < 2 → u < 40 → v < 40 → B01 (J5 341 (1600 * o + 40 * u + v)) (CLk J (WH J known) T o u v c)) ∧ ∀ p : Nat, p < 3200 → J5 342 p = 0) CN
        (fun c J5 => V w 3 mX5_findLinks 47 [some (vR 313), some (vI known), some (vI (T : Int)), some (vI (c : Int)), none, none] [] S J5 Q) ?_ ?_ 0 J4 (by omega) ⟨g4, fun o u v ho hu hv => Or.inr ⟨(z4 _ (by omega)).1, fun q => by obtain ⟨c, hc, -⟩ := q; omega⟩, fun p hp => (z4 p hp).2⟩
      · intro c J5 hc ⟨g5, l5, p5⟩ ih
        have hm : Mp J J5 := g5.1.kp.mp
        have hXc := hXT.2 c (by omega)
        have eC : J5 320 T = CN := by rw [g5.1 _ _ rfl]; exact hCN
        have eS : J5 321 (12 * T + c) = J 321 (12 * T + c) := g5.1 _ _ rfl
        have eM : J5 324 (12 * T + c) = J 324 (12 * T + c) := g5.1 _ _ rfl
        have eW : J5 322 (12 * T + c) = J 322 (12 * T + c) := g5.1 _ _ rfl
        refine gX5_findLinks_47 (J := J5) hL known _ c (br_n (by omega) ⟨by omega, by omega, br_n (by show ¬ J5 320 T ≤ _; omega) ?_⟩)
        have ei : (12 * (T : Int) + (c : Int)).toNat = 12 * T + c := by omega
        have ej : (12 * (T : Int) + (c : Int)) = ((12 * T + c : Nat) : Int) := by omega
        repeat' (first | (refine And.intro ?_ ?_; omega))
        rw [ei, eS, ej]
        refine br_i (fun hb => gX5_findLinks_87 (J := J5) hL known T c ⟨by omega, ih J5 ⟨g5, fun o u v ho hu hv => (l5 o u v ho hu hv).iff ?_, p5⟩⟩) (fun hb => ?_)
        · rw [CLk_succ]
          exact ⟨Or.inl, fun q => q.elim id (fun q => by have := q.1; omega)⟩
        · repeat' (first | (refine And.intro ?_ ?_; omega))
          have hq := hXc.2.1 (by omega)
          refine s_linksBy hL (12 * T + c) (WH J known) (by omega) (by rw [eS]; omega) (by rw [eW]; exact hq.1) (by rw [eM]; exact hq.2.2.1) g5.2.2 hWin.1 hWin.2 (fun J6 f6 l6 => ?_)
          show V w 3 mX5_findLinks 87 [some (vR 313), some (vI known), some (vI (T : Int)), some (vI (c : Int)), none, none] [] S J6 Q
          refine gX5_findLinks_87 (J := J6) hL known T c ⟨by omega, ?_⟩
          refine ih J6 ⟨g5.step (fun a j q1 _ _ q4 => f6 a j q4 q1), fun o u v ho hu hv => ?_, fun p hp => by rw [f6 _ _ (by decide) (by decide)]; exact p5 p hp⟩
          refine b01_step (l5 o u v ho hu hv) (C := J 321 (12 * T + c) = o ∧ J 324 (12 * T + c) ≤ (cntP u v (tpOf J (12 * T + c) (WH J known)) : Nat)) ?_ CLk_succ
          have h6 := l6 o u v ho hu hv
          rw [tpOf_mp hm (by omega)] at h6
          simp only [eS, eM] at h6
          by_cases hC : (o : Int) = J 321 (12 * T + c) ∧ J 324 (12 * T + c) ≤ (cntP u v (tpOf J (12 * T + c) (WH J known)) : Nat)
          · rw [if_pos hC] at h6
            exact Or.inl ⟨⟨hC.1.symm, hC.2⟩, h6⟩
          · rw [if_neg hC] at h6
            exact Or.inr ⟨fun q => hC ⟨q.1.symm, q.2⟩, h6⟩
      · intro J5 ⟨g5, l5, p5⟩
        have eC : J5 320 T = CN := by rw [g5.1 _ _ rfl]; exact hCN
        refine gX5_findLinks_47 (J := J5) hL known _ CN (br_n (by omega) ⟨by omega, by omega, br_y (by show J5 320 T ≤ _; omega) ?_⟩)
        refine shares J5 g5 (fun o u v ho hu hv => (l5 o u v ho hu hv).iff ?_) p5
        unfold LKc
        rw [hTe, Int.toNat_natCast, hCN, Int.toNat_natCast]
        exact ⟨fun q => ⟨by omega, q⟩, fun q => q.2⟩
  refine gX5_findLinks_0 hL known ⟨hH, fun J1 h1 => ?_⟩
  have kp1 : Kp J J1 := Kp.arr scr_stand h1.1
  refine ⟨hT.mp kp1.mp, fun J2 h2 => ?_⟩
  have g2 : GLk J known J2 := by
    refine ⟨fun a k q => ?_, fun s hs => ?_, ?_⟩
    · rw [h2.1 a k (fun e => by rw [e] at q; cases q) (fun e => by rw [e] at q; cases q) (fun e => by rw [e.1, e.2] at q; cases q), h1.1 a k (fun e => by rw [e] at q; cases q)]
    · rw [h2.1 _ _ (by decide) (by decide) (by omega)]
      exact h1.2 s hs
    · have := h2.2
      rw [whOf_cong hT kp1.mp (st := stI J known) (fun s hs => h1.2 s hs)] at this
      exact this
  refine up_loop (P := fun k J3 => GLk J known J3 ∧ ∀ p : Nat, p < k → J3 341 p = 0 ∧ J3 342 p = 0) 3200
    (fun k J3 => V w 3 mX5_findLinks 12 [some (vR 313), some (vI known), some (vI (k : Int)), none, none, none] [] S J3 Q) ?_ ?_ 0 J2 (by omega) ⟨g2, fun p hp => absurd hp (by omega)⟩
  · intro k J3 hk ⟨g3, z3⟩ ih
    refine gX5_findLinks_12 (J := J3) hL known k (br_n (by omega) ?_)
    repeat' (first | (refine And.intro ?_ ?_; omega))
    refine ih _ ⟨g3.step (fun a j q1 q2 _ _ => by rw [up_na q2, up_na q1]), fun p hp => ?_⟩
    by_cases hpk : p = k
    · subst hpk
      exact ⟨by rw [up_na (by decide), up_self], up_self⟩
    · exact ⟨by rw [up_na (by decide), up_nk hpk]; exact (z3 p (by omega)).1, by rw [up_nk hpk, up_na (by decide)]; exact (z3 p (by omega)).2⟩
  · intro J3 ⟨g3, z3⟩
    refine gX5_findLinks_12 (J := J3) hL known 3200 (br_y (by omega) ⟨by rw [g3.1 _ _ rfl]; exact hX.1, ?_⟩)
    rw [rbOf_mp g3.1.kp.mp]
    exact clauses J3 g3 z3
