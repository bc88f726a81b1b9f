/-! the model: fits (2) -/
set_option maxRecDepth 100000

theorem rwB_cg {J J' : Jm} {known : Int} {r : Nat} (h1 : J' 313 2 = J 313 2) (h2 : J' 316 (r / 8) = J 316 (r / 8)) (h3 : J' 314 (r / 8) = J 314 (r / 8)) (h4 : J' 315 (r / 8) = J 315 (r / 8)) : rwB J' known r = rwB J known r := by
  unfold rwB tabB
  rw [h1, h2, h3, h4]
theorem s_goes3 {w : Wd} {S : Sh} {J : Jm} {Q : Out → Sh → Jm → Prop} (hL : Lay S) (known : Int) (E : WE) (N : Nat) (cs : List Int) (hE : EnvAt J E N) (hN6 : N ≤ 6) (hCs : CsAt J 6 cs) (hT : MTab J) (hRw : ∀ t u : Nat, (t : Int) < J 313 2 → (u : Int) < J 316 t → RwAt J (8 * t + u) (E.pl (8 * t + u)) (E.sz (8 * t + u))) (h0 : ∀ r, r < 192 → J 362 r = 0)
    (K : ∀ J', gtF J J' → (∀ r, r < 192 → J' 362 r = if (rwB J known r && (wy0 E N).any (fiB E cs r)) = true then 1 else 0) → Q (.inl none) S J') : V w 4 mX5_goesThrough 0 (ent mX5_goesThrough [vR 313, vI 3, vI known]) [] S J Q := by
  have hlen := wy_len7 hE [] (fun _ => -1)
  refine s_goes hL 3 known E N hE (fun i J1 => J1 313 68 = (i : Int) ∧ ∀ r, r < 192 → J1 362 r = if (rwB J known r && ((wy0 E N).take i).any (fiB E cs r)) = true then 1 else 0) (fun _ => False) (fun i J1 J2 h f => ?_) ⟨up_self, fun r hr => ?_⟩ (fun i ch g J1 Q' hat f1 i1 c1 hl g1 KK => ?_) (fun J' f h => ?_)
  · refine ⟨by rw [f _ _ (by decide) (by decide)]; exact h.1, fun r hr => ?_⟩
    rw [f _ _ (by decide) (by decide)]
    exact h.2 r hr
  · rw [up_na (by decide), h0 r hr, List.take_zero]
    simp
  · have hi := (List.getElem?_eq_some_iff.mp hat).1
    have et : J1 313 64 = (N : Int) := by rw [f1 _ _ (by unfold gtS; omega)]; exact hE.1
    have htk : (wy0 E N).take (i + 1) = (wy0 E N).take i ++ [(ch, g)] := by
      rw [List.take_add_one]
      have hat' : (wy0 E N)[i]? = some (ch, g) := hat
      rw [hat']
      rfl
    refine gX5_meets_0c3 (J := J1) hL known ?_
    rw [i1.1, et]
    (repeat' (first | ((with_reducible refine And.intro ?_ ?_); omega)))
    have f2 : gtF J (up J1 313 68 ((i : Int) + 1)) := f1.up (by unfold gtS; omega)
    generalize hJ2 : up J1 313 68 ((i : Int) + 1) = J2 at f2
    have n2 : ∀ b k, b ≠ 313 → J2 b k = J1 b k := fun b k h => by rw [← hJ2]; exact up_na h
    have p2 : ∀ b k, b ≠ 313 → b ≠ 357 → b ≠ 358 → b ≠ 361 → b ≠ 359 → b ≠ 360 → b ≠ 362 → J2 b k = J b k := fun b k h0 h1 h2 h3 h4 h5 h6 => f2 b k (fun e => by unfold gtS at e; omega)
    have hTb : J2 313 2 = J 313 2 := f2 _ _ (by unfold gtS; omega)
    have hrwB : ∀ r, rwB J2 known r = rwB J known r := fun r => rwB_cg hTb (p2 _ _ (by decide) (by decide) (by decide) (by decide) (by decide) (by decide) (by decide)) (p2 _ _ (by decide) (by decide) (by decide) (by decide) (by decide) (by decide) (by decide)) (p2 _ _ (by decide) (by decide) (by decide) (by decide) (by decide) (by decide) (by decide))
    have hcs2 : CsAt J2 6 cs := by
      unfold CsAt at hCs ⊢
      simp only [p2 354 _ (by decide) (by decide) (by decide) (by decide) (by decide) (by decide) (by decide), p2 353 _ (by decide) (by decide) (by decide) (by decide) (by decide) (by decide) (by decide)]
      exact hCs
    have hrw2 : ∀ t u : Nat, (t : Int) < J2 313 2 → (u : Int) < J2 316 t → RwAt J2 (8 * t + u) (E.pl (8 * t + u)) (E.sz (8 * t + u)) := by
      intro t u h1 h2
      rw [hTb] at h1
      rw [p2 316 _ (by decide) (by decide) (by decide) (by decide) (by decide) (by decide) (by decide)] at h2
      have := hRw t u h1 h2
      unfold RwAt at this ⊢
      simp only [p2 317 _ (by decide) (by decide) (by decide) (by decide) (by decide) (by decide) (by decide), p2 318 _ (by decide) (by decide) (by decide) (by decide) (by decide) (by decide) (by decide)]
      exact this
    refine s_marksFits hL known E N (ch, g) cs (hE.gt f2) hN6 (c1.cong (fun i _ => n2 _ _ (by decide))) hl (g1.cong (fun x _ => n2 _ _ (by decide))) hcs2 (hT.mp f2.kp.mp) hrw2 (fun J3 f3 h3 => ?_)
    refine v_forget (fg_none (fg_some (fg_none (fg_none (fg_none fg_nil))))) (gX5_meets_179c3 hL ?_)
    refine KK 1 J3 (Or.inr rfl) (fun b k q => ?_) (fun _ => ⟨?_, fun r hr => ?_⟩) (fun h => absurd h (by decide))
    · rw [f3 b k (by omega), ← hJ2, up_ne (fun e => q (by omega))]
    · rw [f3 _ _ (by omega), ← hJ2, up_self]; push_cast; rfl
    · rw [h3 r hr, n2 _ _ (by decide), i1.2 r hr, hrwB, htk, List.any_append]
      have e1 : [(ch, g)].any (fiB E cs r) = fiB E cs r (ch, g) := by simp
      rw [e1]
      cases rwB J known r <;> cases ((wy0 E N).take i).any (fiB E cs r) <;> cases fiB E cs r (ch, g) <;> simp
  · rcases h with h | h
    · refine K J' f (fun r hr => ?_)
      rw [h.2 r hr]
      have : (wy0 E N).take (wy E N 0 [] (fun _ => -1)).length = wy0 E N := List.take_length
      rw [this]
    · exact h.elim
noncomputable def fitB (J : Jm) (known : Int) (r : Nat) : Bool := rwB J known r && (wyL J known 0).any (fiB (envOf J known (tkL J known 0)) (spOf J 6 known) r)
noncomputable def rFits (J : Jm) (known : Int) : Int := ((cntB (fitB (nwJ J) known) 192 : Nat) : Int)
theorem any_cong {α : Type} {l : List α} {p q : α → Bool} (h : ∀ x ∈ l, p x = q x) : l.any p = l.any q := by
  induction l with
  | nil => rfl
  | cons a l ih => rw [List.any_cons, List.any_cons, h a List.mem_cons_self, ih (fun x hx => h x (List.mem_cons_of_mem _ hx))]
theorem fitB_cg {J J' : Jm} (h0 : MI0 J) (f : wwF J J') (known : Int) (r : Nat) : fitB J' known r = fitB J known r := by
  obtain ⟨hH, hT, hX, hS, hN⟩ := id h0
  have hm := f.1.mp
  have hT1 := hT.1
  unfold fitB
  by_cases hr : (r : Int) < 8 * J 313 2
  · have e1 : J' 316 (r / 8) = J 316 (r / 8) := hm _ _ (by unfold mper scr; simp; omega)
    rw [rwB_cg (hm _ _ rfl) e1 (hm _ _ rfl) (hm _ _ rfl), wyL_mp h0 hm, tkL_mp hN hm, spOf_cg hX hm f.2.1 f.2.2]
    cases hb : rwB J known r with
    | false => rfl
    | true =>
      rw [Bool.true_and, Bool.true_and]
      refine any_cong (fun x _ => ?_)
      unfold rwB at hb
      simp only [Bool.and_eq_true, decide_eq_true_iff] at hb
      obtain ⟨z1, z2⟩ := (hT.2 (r / 8) (by omega)).2 (r % 8) (by omega)
      rw [show 8 * (r / 8) + r % 8 = r by omega] at z1 z2
      have es : J' 317 r = J 317 r := hm _ _ (by unfold mper scr; simp; omega)
      have ep : ∀ i : Nat, (i : Int) < J 317 r → J' 318 (6 * r + i) = J 318 (6 * r + i) := fun i hi => hm _ _ (by unfold mper scr; simp; omega)
      unfold fiB
      have e9 : putR (envOf J' known (tkL J known 0)).ag (envOf J' known (tkL J known 0)).st ((envOf J' known (tkL J known 0)).pl r) ((envOf J' known (tkL J known 0)).sz r) (spOf J 6 known) x.2 = putR (envOf J known (tkL J known 0)).ag (envOf J known (tkL J known 0)).st ((envOf J known (tkL J known 0)).pl r) ((envOf J known (tkL J known 0)).sz r) (spOf J 6 known) x.2 := by
        show putR (agB J' known) (labOf (EH J' known)) (fun i => J' 318 (6 * r + i)) (J' 317 r).toNat (spOf J 6 known) x.2 = putR (agB J known) (labOf (EH J known)) (fun i => J 318 (6 * r + i)) (J 317 r).toNat (spOf J 6 known) x.2
        rw [agB_mp hT hX hm, EH_mp hm, es]
        unfold putR
        split
        · exact putN_cong _ _ _ (fun k _ hk => ep k (by omega))
        · rfl
      rw [e9]
  · have b1 : rwB J' known r = false := by
      unfold rwB
      rw [hm 313 2 rfl, decide_eq_false hr]
      rfl
    have b2 : rwB J known r = false := by
      unfold rwB
      rw [decide_eq_false hr]
      rfl
    rw [b1, b2]
    rfl
theorem cntB_cg {p q : Nat → Bool} : ∀ n, (∀ k, k < n → p k = q k) → cntB p n = cntB q n
  | 0, _ => rfl
  | n + 1, h => by rw [cntB, cntB, cntB_cg n (fun k hk => h k (by omega)), h n (by omega)]
theorem m_fits {w : Wd} {S : Sh} {J : Jm} {Q : Out → Sh → Jm → Prop} (hL : Lay S) (known : Int) (h : MI0 J) (K0 : ¬ (kno J known ∧ NameB J) → ∀ J', Kp J J' → Q (.inl (some (vI (-1)))) S J') (K1 : (kno J known ∧ NameB J) → ∀ J', t0F J J' → Q (.inl (some (vI (rFits J known)))) S J') : V w 5 mX5_fits 0 (ent mX5_fits [vR 313, vI known]) [] S J Q := by
  refine gX5_fits_0 hL known (br_i (fun h1 => br_i (fun h4 => ?_) (fun h4 => K0 (fun q => h4 (nameB0.mpr q.2)) _ (k0 J))) (fun h1 => K0 (fun q => h1 q.1) _ (k0 J)))
  have hB := nameB0.mp h4
  have K2 := K1 ⟨h1, hB⟩
  unfold rFits at K2
  refine s_takesName hL 6 0 (by omega) h4.1 (fun J1 hp => ?_)
  have hw := PTn.nw hp
  have hmi := nwJ_mi h
  have hmi1 := hmi.mp hw.1.mp
  have hn61 := (nwJ_n6 hB).ww hw
  obtain ⟨hH1, hT1, hX1, hS1, hN1⟩ := id hmi1
  have hN11 := hN1.1
  have hT11 := hT1.1
  refine gX5_fits_29 hL known ⟨hmi1, fun J2 hp2 => ?_⟩
  obtain ⟨f2, hE2⟩ := id hp2
  have w2 : wwF J1 J2 := ⟨f2.kp, f2 _ _ rfl (by decide) (by decide) (by decide) (by decide) (by omega), fun i _ => f2 _ _ rfl (by decide) (by decide) (by decide) (by decide) (by omega)⟩
  refine ⟨by omega, hX1.mp f2.kp.mp, hn61.ww w2, fun J3 hp3 => ?_⟩
  obtain ⟨f3, p2, p3⟩ := hp3
  have esp : spOf J2 6 known = spOf J1 6 known := spOf_cg hX1 f2.kp.mp w2.2.1 w2.2.2 known
  rw [esp] at p2 p3
  have hin := spOf_in hX1 hn61 known
  generalize hN : (tkU J1 known 0 (J1 313 55).toNat).length = N at hE2
  have hlen := tkU_len J1 known 0 (J1 313 55).toNat
  have w3 : wwF J1 J3 := w2.trans ⟨f3.kp, f3 _ _ (by omega) (by omega) (by decide), fun i _ => f3 _ _ (by omega) (by omega) (by decide)⟩
  have hE3 : EnvAt J3 (envOf J1 known (tkL J1 known 0)) N := by
    obtain ⟨e1, e2, e3, e4, e5⟩ := hE2
    refine ⟨by rw [f3 _ _ (by omega) (by omega) (by decide)]; exact e1, e2, fun j hj => ?_, fun s hs => ?_, fun s o hs ho c d hc hd => ?_⟩
    · obtain ⟨a1, a2, a3, a4, a5⟩ := e3 j hj
      have hlt := tkL_lt (J := J1) (known := known) (but := 0) hN1 (j := j) (by rw [show (tkL J1 known 0).length = N from hN]; exact hj)
      have hq6 : (envOf J1 known (tkL J1 known 0)).nm j < 6 := by
        show (tkL J1 known 0).getD j 0 < 6
        omega
      refine ⟨?_, ?_, ?_, ?_, fun u hu => ?_⟩
      · rw [f3 _ _ (by omega) (by omega) (by decide)]; exact a1
      · rw [f3 _ _ (by omega) (by omega) (by decide)]; exact a2
      · obtain ⟨d1, d2, d3⟩ := a3
        have d1' : J2 354 ((envOf J1 known (tkL J1 known 0)).nm j) = ((((envOf J1 known (tkL J1 known 0)).cl j).length : Nat) : Int) := d1
        have d2' : ((envOf J1 known (tkL J1 known 0)).cl j).length ≤ 8 := d2
        refine ⟨by rw [f3 _ _ (by omega) (by omega) (by decide)]; exact d1', d2', fun i hi => ⟨?_, (d3 i hi).2⟩⟩
        rw [f3 _ _ (by omega) (by omega) (by decide)]
        exact (d3 i hi).1
      · rw [f3 _ _ (by omega) (by omega) (by decide)]; exact a4
      · have := a5 u hu
        unfold RwAt at this ⊢
        rw [f3 317 _ (by omega) (by omega) (by decide)]
        refine ⟨this.1, this.2.1, fun i hi => ?_⟩
        rw [f3 318 _ (by omega) (by omega) (by decide)]
        exact this.2.2 i hi
    · rw [f3 _ _ (by omega) (by omega) (by decide)]; exact e4 s hs
    · refine Eq.trans ?_ (e5 s o hs ho c d hc hd)
      unfold agJ
      rw [f3 343 _ (by omega) (by omega) (by decide), f3 343 _ (by omega) (by omega) (by decide), f3 343 _ (by omega) (by omega) (by decide), f3 343 _ (by omega) (by omega) (by decide), f3 342 _ (by omega) (by omega) (by decide), f3 342 _ (by omega) (by omega) (by decide)]
  have hC3 : CsAt J3 6 (spOf J1 6 known) := ⟨p2, hin.2, fun i hi => ⟨p3 i hi, (hin.1 i).1⟩⟩
  show V w 5 mX5_fits 44 [some (vR 313), some (vI known), some (vI ((0 : Nat) : Int)), none] [] S J3 Q
  refine up_loop (P := fun r J4 => (∀ b j, b ≠ 362 → J4 b j = J3 b j) ∧ ∀ q, q < r → J4 362 q = 0) 192 (fun r J4 => V w 5 mX5_fits 44 [some (vR 313), some (vI known), some (vI (r : Int)), none] [] S J4 Q) ?_ ?_ 0 J3 (by omega) ⟨fun _ _ _ => rfl, fun q hq => absurd hq (Nat.not_lt_zero _)⟩
  · intro r J4 hr ⟨f4, z4⟩ ih
    refine gX5_fits_44 (J := J4) hL known r (br_n (by omega) ?_)
    (repeat' (first | ((with_reducible refine And.intro ?_ ?_); omega)))
    refine ih _ ⟨fun b j q => by rw [up_na q]; exact f4 b j q, fun q hq => ?_⟩
    by_cases e : q = r
    · rw [e, up_self]
    · rw [up_nk e]; exact z4 q (by omega)
  · intro J4 ⟨f4, z4⟩
    have g4 : gtF J3 J4 := fun b j q => f4 b j (fun e => q (by unfold gtS; omega))
    have w4 : wwF J1 J4 := w3.trans ⟨g4.kp, f4 _ _ (by decide), fun i _ => f4 _ _ (by decide)⟩
    have hC4 : CsAt J4 6 (spOf J1 6 known) := by
      unfold CsAt at hC3 ⊢
      simp only [f4 354 _ (by decide), f4 353 _ (by decide)]
      exact hC3
    have hm4 := w4.1.mp
    refine gX5_fits_44 (J := J4) hL known 192 (br_y (by omega) ?_)
    refine s_goes3 hL known _ N (spOf J1 6 known) (hE3.gt g4) (by omega) hC4 (hT1.mp hm4) (fun t u h5 h6 => ?_) z4 (fun J5 f5 z5 => ?_)
    · have e1 : J4 313 2 = J1 313 2 := hm4 _ _ rfl
      have e2 : J4 316 t = J1 316 t := hm4 _ _ (by unfold mper scr; simp; omega)
      rw [e1] at h5
      rw [e2] at h6
      have ht := hT1.2 t h5
      obtain ⟨y1, y2⟩ := ht.2 u h6
      show RwAt J4 (8 * t + u) (fun i => J1 318 (6 * (8 * t + u) + i)) (J1 317 (8 * t + u)).toNat
      refine ⟨by rw [hm4 317 (8 * t + u) (by unfold mper scr; simp; omega)]; omega, by omega, fun i hi => ⟨hm4 _ _ (by unfold mper scr; simp; omega), y2 i (by omega)⟩⟩
    · refine v_forget (fg_some (fg_none (fg_none (fg_none fg_nil)))) (gX5_fits_70 (J := J5) hL ?_)
      have z6 : ∀ r, r < 192 → J5 362 r = if fitB (nwJ J) known r = true then 1 else 0 := by
        intro r hr
        rw [z5 r hr, ← fitB_cg hmi hw]
        have e1 : rwB J4 known r = rwB J1 known r := by
          by_cases hr8 : (r : Int) < 8 * J1 313 2
          · exact rwB_cg (hm4 _ _ rfl) (hm4 _ _ (by unfold mper scr; simp; omega)) (hm4 _ _ rfl) (hm4 _ _ rfl)
          · unfold rwB
            rw [hm4 313 2 rfl, decide_eq_false hr8]
            rfl
        rw [e1]
        unfold fitB wyL
        rw [show (tkL J1 known 0).length = N from hN]
      have fin := K2 J5 (nwJ_t0 ((hw.1.trans w4.1).trans f5.kp))
      have loop : ∀ (m r : Nat), r + m = 192 → V w 5 mX5_fits 74 [some (vR 313), none, some (vI ((cntB (fitB (nwJ J) known) r : Nat) : Int)), some (vI (r : Int))] [] S J5 Q := by
        intro m
        induction m with
        | zero =>
          intro r hr
          obtain rfl : r = 192 := by omega
          exact gX5_fits_74 (J := J5) hL _ 192 (br_y (by omega) fin)
        | succ m ih =>
          intro r hr
          have ih1 := ih (r + 1) (by omega)
          have hle := cntB_le (fitB (nwJ J) known) r
          rw [show cntB (fitB (nwJ J) known) (r + 1) = cntB (fitB (nwJ J) known) r + if fitB (nwJ J) known r = true then 1 else 0 from rfl] at ih1
          refine gX5_fits_74 (J := J5) hL _ r (br_n (by omega) ⟨by omega, ?_⟩)
          rw [z6 r (by omega)]
          by_cases hf : fitB (nwJ J) known r = true
          · rw [if_pos hf] at ih1 ⊢
            refine br_n (by decide) ?_
            (repeat' (first | ((with_reducible refine And.intro ?_ ?_); omega)))
            exact ih1
          · rw [if_neg hf] at ih1 ⊢
            exact br_y rfl ⟨by omega, ih1⟩
      exact loop 192 0 (by omega)
