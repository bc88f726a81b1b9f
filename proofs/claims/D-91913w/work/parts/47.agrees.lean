/-! the model: a row with cells comes to what is given -/
set_option maxRecDepth 100000

def allB (p : Nat → Bool) : Nat → Bool
  | 0 => true
  | n + 1 => allB p n && p n
theorem allB_iff {p : Nat → Bool} : ∀ {n : Nat}, allB p n = true ↔ ∀ k, k < n → p k = true
  | 0 => ⟨fun _ k hk => absurd hk (Nat.not_lt_zero _), fun _ => rfl⟩
  | n + 1 => by
    rw [allB, Bool.and_eq_true, allB_iff]
    constructor
    · rintro ⟨h1, h2⟩ k hk
      by_cases h : k = n
      · rw [h]; exact h2
      · exact h1 k (by omega)
    · intro h
      exact ⟨fun k hk => h k (by omega), h n (by omega)⟩
/-- a sign gets a cell, by what is given -/
def put1 (ag : Nat → Int → Nat → Int → Bool) (g : Nat → Int) (s : Nat) (c : Int) : Option (Nat → Int) :=
  if g s = -1 then (if allB (fun o => decide (g o = -1) || ag s c o (g o)) 40 = true then some (fun k => if k = s then c else g k) else none)
  else if g s = c then some g else none
/-- the places from i on, m of them, get their cells -/
def putN (ag : Nat → Int → Nat → Int → Bool) (st : Nat → Nat) (P C : Nat → Int) : Nat → Nat → (Nat → Int) → Option (Nat → Int)
  | 0, _, g => some g
  | m + 1, i, g => if P i = -1 then putN ag st P C m (i + 1) g else match put1 ag g (st (P i).toNat) (C i) with
    | none => none
    | some g' => putN ag st P C m (i + 1) g'
/-- a row of m places gets the cells cs -/
def putR (ag : Nat → Int → Nat → Int → Bool) (st : Nat → Nat) (P : Nat → Int) (m : Nat) (cs : List Int) (g : Nat → Int) : Option (Nat → Int) := if m = cs.length ∧ ¬ cs.length = 0 then putN ag st P (fun i => cs.getD i 0) m 0 g else none
/-- what is given at a step is g -/
def GvAt (J : Jm) (k : Nat) (g : Nat → Int) : Prop := ∀ x, x < 40 → J 358 (40 * k + x) = g x ∧ (g x = -1 ∨ 0 ≤ g x)
def gvF (J J' : Jm) (k : Nat) : Prop := ∀ b j, ¬ (b = 358 ∧ 40 * k ≤ j ∧ j < 40 * k + 40) → J' b j = J b j
theorem gvF.ag {J J' : Jm} {k : Nat} (h : gvF J J' k) (s : Nat) (c : Int) (o : Nat) (d : Int) : agJ J' s c o d = agJ J s c o d := by
  unfold agJ
  simp only [h 343 _ (fun e => absurd e.1 (by decide)), h 342 _ (fun e => absurd e.1 (by decide))]
/-- a row r, its m places; the cells of a name -/
def RwAt (J : Jm) (r : Nat) (P : Nat → Int) (m : Nat) : Prop := J 317 r = (m : Int) ∧ m ≤ 6 ∧ ∀ i, i < m → J 318 (6 * r + i) = P i ∧ -1 ≤ P i ∧ P i < 40
def CsAt (J : Jm) (n : Nat) (cs : List Int) : Prop := J 354 n = ((cs.length : Nat) : Int) ∧ cs.length ≤ 8 ∧ ∀ i, i < cs.length → J 353 (8 * n + i) = cs.getD i 0 ∧ 0 ≤ cs.getD i 0
def StAt (J : Jm) (st : Nat → Nat) (ag : Nat → Int → Nat → Int → Bool) : Prop := (∀ s, s < 40 → J 332 s = ((st s : Nat) : Int) ∧ st s < 40) ∧ ∀ s o, s < 40 → o < 40 → ∀ c d : Int, 0 ≤ c → 0 ≤ d → agJ J s c o d = ag s c o d
theorem s_agrees {w : Wd} {S : Sh} {J : Jm} {Q : Out → Sh → Jm → Prop} (hL : Lay S) (k r n : Nat) (P : Nat → Int) (m : Nat) (cs : List Int) (st : Nat → Nat) (ag : Nat → Int → Nat → Int → Bool) (g : Nat → Int) (hk : k < 8) (hr : r < 200) (hn : n < 7) (hRw : RwAt J r P m) (hCs : CsAt J n cs) (hSt : StAt J st ag) (hg : GvAt J k g)
    (K0 : putR ag st P m cs g = none → ∀ J', gvF J J' k → Q (.inl (some (vI 0))) S J') (K1 : ∀ g', putR ag st P m cs g = some g' → ∀ J', gvF J J' k → GvAt J' k g' → Q (.inl (some (vI 1))) S J') : V w 1 mX5_agrees 0 (ent mX5_agrees [vR 313, vI (k : Int), vI (r : Int), vI (n : Int)]) [] S J Q := by
  obtain ⟨r1, r2, r3⟩ := hRw
  obtain ⟨c1, c2, c3⟩ := hCs
  obtain ⟨s1, s2⟩ := hSt
  generalize hres : putR ag st P m cs g = res at K0 K1
  unfold putR at hres
  refine gX5_agrees_0 hL (k : Int) r n ?_
  rw [r1, c1]
  refine ⟨by omega, by omega, by omega, br_i (fun h1 => br_i (fun h2 => ?_) (fun h2 => ?_)) (fun h1 => ?_)⟩
  · rw [if_neg (fun q => q.2 (by omega))] at hres
    exact K0 hres.symm J (fun _ _ _ => rfl)
  · rw [if_pos ⟨by omega, by omega⟩] at hres
    have loop : ∀ (u i : Nat) (gi : Nat → Int) (J1 : Jm), i + u = m → gvF J J1 k → GvAt J1 k gi → putN ag st P (fun i => cs.getD i 0) u i gi = res → V w 1 mX5_agrees 35 [some (vR 313), none, some (vI (r : Int)), some (vI (n : Int)), some (vI ((40 * k : Nat) : Int)), some (vI (i : Int)), none, none, none, none] [] S J1 Q := by
      intro u
      induction u with
      | zero =>
        intro i gi J1 hi f1 g1 hres1
        have e1 : J1 317 r = (m : Int) := by rw [f1 _ _ (fun e => absurd e.1 (by decide))]; exact r1
        refine gX5_agrees_35 (J := J1) hL r n (40 * k) i ⟨by omega, br_y (by omega) ?_⟩
        exact K1 gi hres1.symm J1 f1 g1
      | succ u ih =>
        intro i gi J1 hi f1 g1 hres1
        have e1 : J1 317 r = (m : Int) := by rw [f1 _ _ (fun e => absurd e.1 (by decide))]; exact r1
        have e2 : J1 318 (6 * r + i) = P i := by rw [f1 _ _ (fun e => absurd e.1 (by decide))]; exact (r3 i (by omega)).1
        have e3 : J1 353 (8 * n + i) = cs.getD i 0 := by rw [f1 _ _ (fun e => absurd e.1 (by decide))]; exact (c3 i (by omega)).1
        have hP := (r3 i (by omega)).2
        have hC := (c3 i (by omega)).2
        rw [putN] at hres1
        refine gX5_agrees_35 (J := J1) hL r n (40 * k) i ⟨by omega, br_n (by omega) ?_⟩
        rw [e2, e3]
        (repeat' (first | (refine And.intro ?_ ?_; omega)))
        refine br_i (fun h => ?_) (fun h => ?_)
        · rw [if_pos h] at hres1
          exact ⟨by omega, ih (i + 1) gi J1 (by omega) f1 g1 hres1⟩
        · rw [if_neg h] at hres1
          obtain ⟨p, ep⟩ : ∃ p : Nat, P i = p := ⟨(P i).toNat, by omega⟩
          rw [ep, Int.toNat_natCast] at hres1 ⊢
          obtain ⟨hst, hst40⟩ := s1 p (by omega)
          have e4 : J1 332 p = ((st p : Nat) : Int) := by rw [f1 _ _ (fun e => absurd e.1 (by decide))]; exact hst
          rw [e4, show (((40 * k : Nat) : Int) + ((st p : Nat) : Int)).toNat = 40 * k + st p by omega]
          obtain ⟨eg, hgi⟩ := g1 (st p) hst40
          rw [eg]
          generalize st p = s at hst40 hres1 eg hgi
          generalize cs.getD i 0 = c at hres1 hC
          unfold put1 at hres1
          (repeat' (first | (refine And.intro ?_ ?_; omega)))
          refine br_i (fun h3 => br_n (by omega) ?_) (fun h3 => br_i (fun h4 => ?_) (fun h4 => ?_))
          · rw [if_pos h3] at hres1
            -- all signs are asked
            have ask : ∀ (v o : Nat), o + v = 40 → (∀ o', o' < o → (decide (gi o' = -1) || ag s c o' (gi o')) = true) → V w 1 mX5_agrees 144 [some (vR 313), none, some (vI (r : Int)), some (vI (n : Int)), some (vI ((40 * k : Nat) : Int)), some (vI (i : Int)), none, some (vI (s : Int)), some (vI c), some (vI (o : Int))] [] S J1 Q := by
              intro v
              induction v with
              | zero =>
                intro o ho hall
                refine gX5_agrees_144 (J := J1) hL r n (40 * k) i s c o (br_y (by omega) ⟨by omega, by omega, by omega, ?_⟩)
                rw [if_pos (allB_iff.mpr (fun q hq => hall q (by omega)))] at hres1
                refine ih (i + 1) _ _ (by omega) (fun b j h9 => ?_) (fun x hx => ?_) hres1
                · rw [up_ne (fun e => h9 ⟨e.1, by omega, by omega⟩)]; exact f1 b j h9
                · by_cases hxs : x = s
                  · rw [hxs, up_self, if_pos rfl]; exact ⟨rfl, Or.inr hC⟩
                  · rw [up_nk (by omega), if_neg hxs]; exact g1 x hx
              | succ v ihv =>
                intro o ho hall
                obtain ⟨eo, hgo⟩ := g1 o (by omega)
                refine gX5_agrees_144 (J := J1) hL r n (40 * k) i s c o (br_n (by omega) ?_)
                rw [eo, Int.toNat_natCast, Int.toNat_natCast]
                (repeat' (first | (refine And.intro ?_ ?_; omega)))
                refine br_i (fun h5 => ⟨by omega, ihv (o + 1) (by omega) (fun o' ho' => ?_)⟩) (fun h5 => ?_)
                · by_cases e : o' = o
                  · rw [e, decide_eq_true h5]; rfl
                  · exact hall o' (by omega)
                · (repeat' (first | (refine And.intro ?_ ?_; omega)))
                  rw [f1.ag, s2 s o hst40 (by omega) c (gi o) hC (by omega)]
                  refine br_i (fun h6 => ⟨by omega, ihv (o + 1) (by omega) (fun o' ho' => ?_)⟩) (fun h6 => ?_)
                  · by_cases e : o' = o
                    · rw [e, h6, Bool.or_true]
                    · exact hall o' (by omega)
                  · rw [if_neg (fun q => ?_)] at hres1
                    · exact K0 hres1.symm J1 f1
                    · have := allB_iff.mp q o (by omega)
                      rw [decide_eq_false h5, Bool.false_or] at this
                      exact h6 this
            exact ask 40 0 (by omega) (fun o' ho' => absurd ho' (Nat.not_lt_zero _))
          · rw [if_neg h3, if_pos h4] at hres1
            exact ⟨by omega, ih (i + 1) gi J1 (by omega) f1 g1 hres1⟩
          · rw [if_neg h3, if_neg h4] at hres1
            exact K0 hres1.symm J1 f1
    exact loop m 0 g J (by omega) (fun _ _ _ => rfl) hg hres
  · rw [if_neg (fun q => h1 (by omega))] at hres
    exact K0 hres.symm J (fun _ _ _ => rfl)
