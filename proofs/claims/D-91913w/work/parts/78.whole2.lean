/-! GridRoom: the whole view -/
set_option maxRecDepth 100000

def FWv (J J' : Jm) : Prop := ∀ a k, ¬ (a = 84 ∧ (k = 4 ∨ k = 5)) → ¬ (85 ≤ a ∧ a ≤ 286) → J' a k = J a k
/-- the view without links: what be left stands -/
def GWv (S : Sh) (J σ : Jm) (day : Int) (S' : Sh) (J' : Jm) : Prop := Lay S' ∧ VS S S' (lawA S σ day (σ 313 8).toNat) ∧ FWv J J' ∧ J' 84 5 = day ∧ (∀ s : Nat, s < 40 → J' 85 s = stI σ day s) ∧ PWx J' (WH σ day)
theorem PWx.fr {J J' : Jm} {L : List (List Int)} (h : PWx J L) (hn : L.length ≤ 192) (h0 : J' 84 4 = J 84 4) (h1 : ∀ k, J' 280 k = J 280 k) (h2 : ∀ a k, 88 ≤ a → a < 280 → J' a k = J a k) : PWx J' L := by
  refine ⟨by rw [h0]; exact h.1, fun i hi => ?_⟩
  rw [h1, xrow_cong (h1 i) (fun k => h2 _ _ (by omega) (by omega))]
  exact h.2 i hi
theorem GWv.step {S S1 : Sh} {J σ J1 J2 : Jm} {day : Int} (hn : (WH σ day).length ≤ 192) (h : GWv S J σ day S1 J1) (hf : ∀ a k, a ≠ 281 → a ≠ 282 → a ≠ 284 → a ≠ 285 → a ≠ 286 → J2 a k = J1 a k) : GWv S J σ day S1 J2 := by
  obtain ⟨h1, h2, h3, h4, h5, h6⟩ := h
  refine ⟨h1, h2, fun a k q1 q2 => by rw [hf a k (by omega) (by omega) (by omega) (by omega) (by omega)]; exact h3 a k q1 q2, by rw [hf _ _ (by decide) (by decide) (by decide) (by decide) (by decide)]; exact h4, fun s hs => by rw [hf _ _ (by decide) (by decide) (by decide) (by decide) (by decide)]; exact h5 s hs, h6.fr hn (hf _ _ (by decide) (by decide) (by decide) (by decide) (by decide)) (fun k => hf _ _ (by decide) (by decide) (by decide) (by decide) (by decide)) (fun a k q1 q2 => hf _ _ (by omega) (by omega) (by omega) (by omega) (by omega))⟩
/-- behind whole -/
def PWv (S : Sh) (J σ : Jm) (day : Int) (S' : Sh) (J' : Jm) : Prop := GWv S J σ day S' J' ∧ (∀ o u v : Nat, o < 2 → u < 40 → v < 40 → B01 (J' 281 (1600 * o + 40 * u + v)) (LK σ day o u v)) ∧ (∀ o u v : Nat, o < 2 → u < 40 → v < 40 → B01 (J' 282 (1600 * o + 40 * u + v)) (PT σ day o u v)) ∧ (∀ o s : Nat, o < 2 → s < 40 → J' 284 (40 * o + s) = ((clsL σ day o s : Nat) : Int))
theorem CpX.shr {S : Sh} {J σ : Jm} (h : CpX S J σ) : J 69 2 = σ 313 32 ∧ ∀ t : Nat, (t : Int) < σ 313 32 → GetOk S J 69 (t : Int) ∧ ShrX S J (eA S 69 t) σ t := by
  obtain ⟨-, -, -, -, -, ⟨rs, h1, h2, -, h4⟩, -⟩ := h
  refine ⟨by rw [h1.2.2.1]; exact h2, fun t ht => ⟨h1.get (by omega), ?_⟩⟩
  rw [h1.el (by omega)]
  exact h4 t (by omega)
theorem s_whole {w : Wd} {S : Sh} {J : Jm} {Q : Out → Sh → Jm → Prop} (hL : Lay S) (day : Int) (σ : Jm) (hC : CpX S J σ) (hM : MHeld σ) (hT : MTab σ) (hX : MTxt σ) (hS : MShr σ) (hd : day ≤ 100000) (K : ∀ S' J', PWv S J σ day S' J' → Q (.inl (some (vR 84))) S' J') : V w 4 mX3_whole 0 (ent mX3_whole [vR 84, vI day]) [] S J Q := by
  refine v_shp (fun hs => ?_)
  have hlab : ∀ s, s < 40 → labOf (EH σ day) s < 40 := fun s hs => lab40 _ hs
  have hWin := WH_in hT (st := stI σ day) (fun s hs => by unfold stI; have := hlab s hs; omega) day
  have hn : (WH σ day).length ≤ 192 := hWin.1
  obtain ⟨SN, hSN⟩ : ∃ n : Nat, σ 313 32 = n := ⟨(σ 313 32).toNat, by have := hS.1; omega⟩
  have hS1 := hS.1
  have xk : ∀ S1 J1, GWv S J σ day S1 J1 → XKp S J S1 J1 := fun S1 J1 g => g.2.1.xkp hs g.1 (fun a k q => g.2.2.1 a k (by omega) (by omega))
  -- classes
  have last : ∀ (S1 : Sh) (J1 : Jm), GWv S J σ day S1 J1 → (∀ o u v : Nat, o < 2 → u < 40 → v < 40 → B01 (J1 281 (1600 * o + 40 * u + v)) (LK σ day o u v)) → (∀ o u v : Nat, o < 2 → u < 40 → v < 40 → B01 (J1 282 (1600 * o + 40 * u + v)) (PT σ day o u v)) → V w 4 mX3_whole 206 [some (vR 84), none, some (vI ((0 : Nat) : Int)), none] [] S1 J1 Q := by
    intro S1 J1 g1 l1 p1
    refine up_loop (P := fun o J2 => (∀ a k, a ≠ 284 → a ≠ 286 → J2 a k = J1 a k) ∧ ∀ o' s : Nat, o' < o → s < 40 → J2 284 (40 * o' + s) = ((clsL σ day o' s : Nat) : Int)) 2
      (fun o J2 => V w 4 mX3_whole 206 [some (vR 84), none, some (vI (o : Int)), none] [] S1 J2 Q) ?_ ?_ 0 J1 (by omega) ⟨fun _ _ _ _ => rfl, fun o' s h => absurd h (by omega)⟩
    · intro o J2 ho ⟨f2, c2⟩ ih
      have e281 : ∀ q, J2 281 q = J1 281 q := fun q => f2 _ _ (by decide) (by decide)
      have hlk : xkE J2 o = fun u v => u < 40 ∧ v < 40 ∧ LK σ day o u v := by
        funext u v
        unfold xkE
        rw [e281]
        exact propext (and_congr_right (fun hu => and_congr_right (fun hv => (l1 o u v ho hu hv).one)))
      refine gX3_whole_206 (J := J2) g1.1 o (br_n (by omega) ?_)
      rw [Int.toNat_natCast, hlk]
      refine ⟨by omega, fun q hq => ?_, fun u v h => ⟨h.2.1, h.1, LK_sym h.2.2⟩, fun J3 hp => ⟨by omega, ih J3 ⟨fun a k q1 q2 => ?_, fun o' s ho' hs' => ?_⟩⟩⟩
      · rw [e281]
        have := l1 (q / 1600) (q % 1600 / 40) (q % 40) (by omega) (by omega) (by omega)
        rw [show 1600 * (q / 1600) + 40 * (q % 1600 / 40) + q % 40 = q by omega] at this
        rcases this with z | z
        · exact Or.inr z.1
        · exact Or.inl z.1
      · rw [hp.1 a k q2 (fun z => q1 z.1), f2 a k q1 q2]
      · by_cases e : o' = o
        · subst e
          rw [hp.2 s hs', hlk]
          rfl
        · rw [hp.1 _ _ (by decide) (by omega)]
          exact c2 o' s (by omega) hs'
    · intro J2 ⟨f2, c2⟩
      refine gX3_whole_206 (J := J2) g1.1 2 (br_y (by omega) (K S1 J2 ⟨g1.step hn (fun a k _ _ q1 _ q2 => f2 a k q1 q2), fun o u v ho hu hv => by rw [f2 _ _ (by decide) (by decide)]; exact l1 o u v ho hu hv, fun o u v ho hu hv => by rw [f2 _ _ (by decide) (by decide)]; exact p1 o u v ho hu hv, c2⟩))
  -- shares
  have shares : ∀ (S1 : Sh) (J1 : Jm), GWv S J σ day S1 J1 → (∀ o u v : Nat, o < 2 → u < 40 → v < 40 → B01 (J1 281 (1600 * o + 40 * u + v)) (LKc σ day o u v)) → (∀ q, q < 3200 → J1 282 q = 0) → V w 4 mX3_whole 96 [some (vR 84), some (vI day), some (vI ((0 : Nat) : Int)), none] [] S1 J1 Q := by
    intro S1 J1 g1 l1 p1
    refine up_loop (P := fun k J6 => GWv S J σ day S1 J6 ∧ (∀ o u v : Nat, o < 2 → u < 40 → v < 40 → B01 (J6 281 (1600 * o + 40 * u + v)) (LKc σ day o u v ∨ SHk σ day 1 o u v k)) ∧ (∀ o u v : Nat, o < 2 → u < 40 → v < 40 → B01 (J6 282 (1600 * o + 40 * u + v)) (SHk σ day 0 o u v k))) SN
      (fun k J6 => V w 4 mX3_whole 96 [some (vR 84), some (vI day), some (vI (k : Int)), none] [] S1 J6 Q) ?_ ?_ 0 J1 (by omega) ⟨g1, fun o u v ho hu hv => (l1 o u v ho hu hv).iff ⟨Or.inl, fun q => q.elim id (fun q => by obtain ⟨k, hk, -⟩ := q; omega)⟩, fun o u v ho hu hv => Or.inr ⟨p1 _ (by omega), fun q => by obtain ⟨k, hk, -⟩ := q; omega⟩⟩
    · intro k J6 hk ⟨g6, l6, p6⟩ ih
      have h := hS.2 k (by omega)
      have c6 := hC.xkp (xk S1 J6 g6) hs hL
      obtain ⟨t1, t2⟩ := c6.shr
      obtain ⟨go, s1, s2, s3, s4, s5, s6, s7, s8⟩ := t2 k (by omega)
      have hcnt := told_cnt (c := σ 337 k) s4 hd
      rw [← s3] at hcnt
      have sA : J6 85 (σ 334 k).toNat = ((shA σ day k : Nat) : Int) := g6.2.2.2.2.1 _ (by omega)
      have sB : J6 85 (σ 335 k).toNat = ((shB σ day k : Nat) : Int) := g6.2.2.2.2.1 _ (by omega)
      have bA : shA σ day k < 40 := hlab _ (by omega)
      have bB : shB σ day k < 40 := hlab _ (by omega)
      obtain ⟨o0, ho0⟩ : ∃ n : Nat, σ 333 k = n := ⟨(σ 333 k).toNat, by omega⟩
      refine gX3_whole_96 (J := J6) g6.1 day k (br_n (by omega) ?_)
      simp only [Int.toNat_natCast]
      rw [s5, s6, s7, s8, sA, sB, ho0]
      simp only [Int.toNat_natCast]
      have skip : ¬ ((σ 337 k ≤ day ∧ day < σ 338 k) ∧ shA σ day k ≠ shB σ day k) → V w 4 mX3_whole 96 [some (vR 84), some (vI day), some (vI ((k + 1 : Nat) : Int)), none] [] S1 J6 Q := by
        intro hn1
        have hn2 : ∀ is o u v, ¬ SH1 σ day is o u v k := fun is o u v q => hn1 ⟨q.1, q.2.2.2.1⟩
        refine ih J6 ⟨g6, fun o u v ho hu hv => (l6 o u v ho hu hv).iff ?_, fun o u v ho hu hv => (p6 o u v ho hu hv).iff ?_⟩
        · rw [SHk_succ]
          have := hn2 1 o u v
          constructor
          · rintro (q | q)
            · exact Or.inl q
            · exact Or.inr (Or.inl q)
          · rintro (q | q | q)
            · exact Or.inl q
            · exact Or.inr q
            · exact absurd q this
        · rw [SHk_succ]
          exact ⟨Or.inl, fun q => q.elim id (fun q => absurd q (hn2 0 o u v))⟩
      have two : ∀ (X o u v : Nat), o < 2 → u < 40 → v < 40 → up (up J6 X (1600 * o0 + 40 * shA σ day k + shB σ day k) 1) X (1600 * o0 + 40 * shB σ day k + shA σ day k) 1 X (1600 * o + 40 * u + v) = if o = o0 ∧ ((u = shA σ day k ∧ v = shB σ day k) ∨ (u = shB σ day k ∧ v = shA σ day k)) then 1 else J6 X (1600 * o + 40 * u + v) := by
        intro X o u v ho hu hv
        unfold up
        simp only [true_and]
        by_cases hC9 : o = o0 ∧ ((u = shA σ day k ∧ v = shB σ day k) ∨ (u = shB σ day k ∧ v = shA σ day k))
        · rw [if_pos hC9]
          obtain ⟨rfl, ⟨rfl, rfl⟩ | ⟨rfl, rfl⟩⟩ := hC9
          · split
            · rfl
            · rw [if_pos rfl]
          · rw [if_pos rfl]
        · rw [if_neg hC9, if_neg (fun e => hC9 (by have := idx3 hu hv bB bA e; exact ⟨this.1, .inr this.2⟩)), if_neg (fun e => hC9 (by have := idx3 hu hv bA bB e; exact ⟨this.1, .inl this.2⟩))]
      refine ⟨go, s2, ?_⟩
      refine br_i (fun hb2 => ?_) (fun hb2 => ⟨by omega, skip (fun q => hb2 (hcnt.mpr (by rw [s3]; exact q.1)))⟩)
      have hb3 := hcnt.mp hb2
      rw [s3] at hb3
      (repeat' (first | ((with_reducible refine And.intro ?_ ?_); omega)))
      refine br_i (fun hb => ⟨by omega, skip (fun q => q.2 (by omega))⟩) (fun hb => ?_)
      refine br_i (fun hb4 => ?_) (fun hb4 => ?_)
      · refine ⟨by simp, by omega, by omega, by omega, fun J7 e7 => ⟨by omega, ih J7 ⟨g6.step hn (fun a j _ q2 _ _ _ => by rw [e7, up_na q2, up_na q2]), fun o u v ho hu hv => ?_, fun o u v ho hu hv => ?_⟩⟩⟩
        · rw [e7, up_na (by decide), up_na (by decide)]
          refine (l6 o u v ho hu hv).iff ?_
          rw [SHk_succ]
          have : ¬ SH1 σ day 1 o u v k := fun q => by have := q.2.2.1; omega
          constructor
          · rintro (q | q)
            · exact Or.inl q
            · exact Or.inr (Or.inl q)
          · rintro (q | q | q)
            · exact Or.inl q
            · exact Or.inr q
            · exact absurd q this
        · refine b01_step (p6 o u v ho hu hv) (C := SH1 σ day 0 o u v k) ?_ SHk_succ
          rw [e7, two 282 o u v ho hu hv]
          by_cases hC9 : o = o0 ∧ ((u = shA σ day k ∧ v = shB σ day k) ∨ (u = shB σ day k ∧ v = shA σ day k))
          · exact Or.inl ⟨⟨hb3, by omega, by omega, by omega, hC9.2⟩, if_pos hC9⟩
          · exact Or.inr ⟨fun q => hC9 ⟨by have := q.2.1; omega, q.2.2.2.2⟩, if_neg hC9⟩
      · refine ⟨by simp, by omega, by omega, by omega, fun J7 e7 => ⟨by omega, ih J7 ⟨g6.step hn (fun a j q1 _ _ _ _ => by rw [e7, up_na q1, up_na q1]), fun o u v ho hu hv => ?_, fun o u v ho hu hv => ?_⟩⟩⟩
        · refine b01_step (l6 o u v ho hu hv) (C := SH1 σ day 1 o u v k) ?_ (by rw [SHk_succ, or_assoc])
          rw [e7, two 281 o u v ho hu hv]
          by_cases hC9 : o = o0 ∧ ((u = shA σ day k ∧ v = shB σ day k) ∨ (u = shB σ day k ∧ v = shA σ day k))
          · exact Or.inl ⟨⟨hb3, by omega, by omega, by omega, hC9.2⟩, if_pos hC9⟩
          · exact Or.inr ⟨fun q => hC9 ⟨by have := q.2.1; omega, q.2.2.2.2⟩, if_neg hC9⟩
        · rw [e7, up_na (by decide), up_na (by decide)]
          refine (p6 o u v ho hu hv).iff ?_
          rw [SHk_succ]
          exact ⟨Or.inl, fun q => q.elim id (fun q => by have := q.2.2.1; omega)⟩
    · intro J6 ⟨g6, l6, p6⟩
      obtain ⟨t1, -⟩ := (hC.xkp (xk S1 J6 g6) hs hL).shr
      refine gX3_whole_96 (J := J6) g6.1 day SN (br_y (by omega) ?_)
      refine last S1 J6 g6 (fun o u v ho hu hv => ?_) (fun o u v ho hu hv => ?_)
      · unfold LK
        rw [hSN]
        exact l6 o u v ho hu hv
      · unfold PT
        rw [hSN]
        exact p6 o u v ho hu hv
  -- clauses
  have clauses : ∀ (S1 : Sh) (J1 : Jm), GWv S J σ day S1 J1 → (∀ q, q < 3200 → J1 281 q = 0 ∧ J1 282 q = 0) → V w 4 mX3_whole 39 [some (vR 84), some (vI day), some (vI ((0 : Nat) : Int)), none] [] S1 J1 Q := by
    intro S1 J1 g1 z1
    have c1 := hC.xkp (xk S1 J1 g1) hs hL
    have hlaw := g1.2.1.2.2.2.2.1
    have hX1 := hX.1
    by_cases hr : rbOf σ day = -1
    · have e73 : lawA S σ day (σ 313 8).toNat = 73 := by unfold lawA; exact if_pos hr
      rw [e73] at hlaw
      have h74 := c1.2.2.1
      refine gX3_whole_39 (J := J1) g1.1 day 0 ⟨73, hlaw, (L_73 g1.1).1, 74, LR_73_0 g1.1, (L_74 g1.1).1, br_y (by rw [h74.2.2.1]; exact Int.le_refl _) ?_⟩
      exact shares S1 J1 g1 (fun o u v ho hu hv => Or.inr ⟨(z1 _ (by omega)).1, fun q => q.1 hr⟩) (fun q hq => (z1 q hq).2)
    · have hin := rbN_in σ day (σ 313 8).toNat
      obtain ⟨t, et⟩ : ∃ m : Nat, rbOf σ day = m := ⟨(rbOf σ day).toNat, by unfold rbOf at hr ⊢; omega⟩
      have htl : (t : Int) < σ 313 8 := by rw [← et]; unfold rbOf; omega
      have e73 : lawA S σ day (σ 313 8).toNat = eA S 67 t := by
        unfold lawA
        have : rbN σ day (σ 313 8).toNat = (t : Int) := et
        rw [this, if_neg (by omega), Int.toNat_natCast]
      obtain ⟨-, r2⟩ := c1.rul
      obtain ⟨gk, R⟩ := r2 t htl
      have ee : eA S1 67 t = eA S 67 t := by
        unfold eA
        obtain ⟨-, -, A, q3, q6, -⟩ := gk
        have q4 : S1.rf 67 1 = S.rf 67 1 := g1.2.1.2.2.2.2.2 _ _ (by decide)
        rw [← q4, q3]
        show (S1.rf A t).getD 0 = (S.rf A t).getD 0
        rw [g1.2.1.2.2.2.2.2 A t (fun z => ?_)]
        rw [z.1, (L_84 g1.1).1] at q6
        cases q6
      rw [e73, ← ee] at hlaw
      obtain ⟨x1, x2, x3, l, cs, x5, x6, x7, x8, x9⟩ := R
      have hC2 := hX.2 t htl
      have hkp : ∀ J2 : Jm, GWv S J σ day S1 J2 → ∀ a k, 365 ≤ a → J2 a k = J1 a k := fun J2 g2 a k q => by rw [g2.2.2.1 a k (by omega) (by omega), g1.2.2.1 a k (by omega) (by omega)]
      refine up_loop (P := fun n J2 => GWv S J σ day S1 J2 ∧ (∀ o u v : Nat, o < 2 → u < 40 → v < 40 → B01 (J2 281 (1600 * o + 40 * u + v)) (CLk σ (WH σ day) t o u v n)) ∧ ∀ q, q < 3200 → J2 282 q = 0) cs.length
        (fun n J2 => V w 4 mX3_whole 39 [some (vR 84), some (vI day), some (vI (n : Int)), none] [] S1 J2 Q) ?_ ?_ 0 J1 (by omega) ⟨g1, fun o u v ho hu hv => Or.inr ⟨(z1 _ (by omega)).1, fun q => by obtain ⟨k, hk, -⟩ := q; omega⟩, fun q hq => (z1 q hq).2⟩
      · intro n J2 hn2 ⟨g2, l2, p2⟩ ih
        have xl : LsAt S1 J2 l cs := ⟨x7.1, by rw [hkp J2 g2 _ _ x6]; exact x7.2.1, by rw [hkp J2 g2 _ _ x6]; exact x7.2.2.1, x7.2.2.2⟩
        have eo : eA S1 l n = cs.getD n 0 := xl.el hn2
        have hcl := x9 n hn2
        have hcb := hC2.2 n (by omega)
        refine gX3_whole_39 (J := J2) g2.1 day n ⟨_, hlaw, x2, l, x5, x7.1, br_n (by rw [xl.2.2.1]; omega) ⟨_, hlaw, x2, l, x5, x7.1, xl.get (by omega), ?_⟩⟩
        rw [Int.toNat_natCast, eo]
        refine ⟨by rcases hcl.2 with q | q | q; exact .inl q.2.1; exact .inr (.inl q.2.1); exact .inr (.inr q.2.1), ?_⟩
        refine br_i (fun c15 => ⟨_, hlaw, x2, l, x5, x7.1, xl.get (by omega), (by show S1.tg (eA S1 l n) = 15; rw [eo]; exact c15), ?_⟩) (fun c15 => ⟨by omega, ?_⟩)
        · obtain ⟨y1, y2⟩ := hcl
          have y3 : σ 321 (12 * t + n) < 2 ∧ S1.tg (cs.getD n 0) = 15 ∧ J1 (cs.getD n 0) 0 = σ 321 (12 * t + n) ∧ J1 (cs.getD n 0) 1 = whX (σ 322 (12 * t + n)) ∧ J1 (cs.getD n 0) 2 = σ 323 (12 * t + n) ∧ J1 (cs.getD n 0) 3 = σ 324 (12 * t + n) := by
            rcases y2 with q | q | q
            · exact q
            · rw [q.2.1] at c15; cases c15
            · rw [q.2.1] at c15; cases c15
          obtain ⟨k1, k2, k3, k4, k5, k6⟩ := y3
          have hcc := hcb.2.1 k1
          show V w 2 mX3_links 0 (ent mX3_links [vR 84, vR (eA S1 l n)]) [] S1 J2 _
          rw [eo]
          refine s_xlinks g2.1 (cs.getD n 0) (12 * t + n) (WH σ day) σ y1 k2 (by rw [hkp J2 g2 _ _ y1]; exact k3) (by rw [hkp J2 g2 _ _ y1]; exact k4) (by rw [hkp J2 g2 _ _ y1]; exact k5) (by rw [hkp J2 g2 _ _ y1]; exact k6) (by omega) hcc.1 hcc.2.2.1 g2.2.2.2.2.2 hn hWin.2 (fun J3 f3 h3 => ?_)
          show V w 4 mX3_whole 88 [some (vR 84), some (vI day), some (vI (n : Int)), none] [] S1 J3 Q
          refine gX3_whole_88 (J := J3) g2.1 day n ⟨by omega, ih J3 ⟨g2.step hn (fun a k q1 _ _ q2 _ => f3 a k q1 q2), fun o u v ho hu hv => ?_, fun q hq => by rw [f3 _ _ (by decide) (by decide)]; exact p2 q hq⟩⟩
          refine b01_step (l2 o u v ho hu hv) (C := σ 321 (12 * t + n) = o ∧ σ 324 (12 * t + n) ≤ (cntP u v (tpOf σ (12 * t + n) (WH σ day)) : Nat)) ?_ CLk_succ
          rw [h3 o u v ho hu hv]
          by_cases q : (o : Int) = σ 321 (12 * t + n) ∧ σ 324 (12 * t + n) ≤ (cntP u v (tpOf σ (12 * t + n) (WH σ day)) : Nat)
          · exact Or.inl ⟨⟨q.1.symm, q.2⟩, if_pos q⟩
          · exact Or.inr ⟨fun z => q ⟨z.1.symm, z.2⟩, if_neg q⟩
        · refine ih J2 ⟨g2, fun o u v ho hu hv => (l2 o u v ho hu hv).iff ?_, p2⟩
          rw [CLk_succ]
          refine ⟨Or.inl, fun q => q.elim id (fun q => ?_)⟩
          exfalso
          rcases hcl.2 with z | z | z
          · exact c15 z.2.1
          · have := q.1; omega
          · have := q.1; omega
      · intro J2 ⟨g2, l2, p2⟩
        have xl : LsAt S1 J2 l cs := ⟨x7.1, by rw [hkp J2 g2 _ _ x6]; exact x7.2.1, by rw [hkp J2 g2 _ _ x6]; exact x7.2.2.1, x7.2.2.2⟩
        refine gX3_whole_39 (J := J2) g2.1 day cs.length ⟨_, hlaw, x2, l, x5, x7.1, br_y (by rw [xl.2.2.1]; exact Int.le_refl _) ?_⟩
        refine shares S1 J2 g2 (fun o u v ho hu hv => (l2 o u v ho hu hv).iff ?_) p2
        unfold LKc
        rw [et, Int.toNat_natCast, ← x8, Int.toNat_natCast]
        exact ⟨fun q => ⟨by omega, q⟩, fun q => q.2⟩
  refine gX3_whole_0 hL day ?_
  refine s_be hL day σ hC hM hT hX hd (fun S1 J1 hb => ?_)
  obtain ⟨b1, b2, b3, b4, b5, b6⟩ := hb
  have g1 : GWv S J σ day S1 J1 := ⟨b1, b2, fun a k q1 q2 => b3 a k q1 (by omega), b4, b5, b6⟩
  show V w 4 mX3_whole 5 [some (vR 84), some (vI day), none, none] [vR 84] S1 J1 Q
  refine gX3_whole_5 (J := J1) b1 day 84 ?_
  refine up_loop (P := fun k J2 => GWv S J σ day S1 J2 ∧ ∀ q, q < k → J2 281 q = 0 ∧ J2 282 q = 0) 3200
    (fun k J2 => V w 4 mX3_whole 8 [some (vR 84), some (vI day), some (vI (k : Int)), none] [] S1 J2 Q) ?_ ?_ 0 J1 (by omega) ⟨g1, fun q hq => absurd hq (by omega)⟩
  · intro k J2 hk ⟨g2, h2⟩ ih
    refine gX3_whole_8 (J := J2) b1 day k (br_n (by omega) ?_)
    (repeat' (first | ((with_reducible refine And.intro ?_ ?_); omega)))
    refine ih _ ⟨g2.step hn (fun a j q1 q2 _ _ _ => by rw [up_na q2, up_na q1]), fun q hq => ?_⟩
    by_cases e : q = k
    · subst e
      rw [up_na (by decide), up_self, up_self]
      exact ⟨rfl, rfl⟩
    · rw [up_na (by decide), up_nk e, up_nk e, up_na (by decide)]
      exact h2 q (by omega)
  · intro J2 ⟨g2, h2⟩
    refine gX3_whole_8 (J := J2) b1 day 3200 (br_y (by omega) ?_)
    exact clauses S1 J2 g2 h2
