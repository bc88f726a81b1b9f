/-! the model: clash and reason -/
set_option maxRecDepth 100000

def PCl (J : Jm) (known : Int) (J' : Jm) : Prop := Kp J J' ∧ CsAtM J' (clashM J known) ∧ (∀ o a b n, o < 2 → a < 40 → b < 40 → dstM J known o a b = some n → n < 40) ∧ (∀ o u v : Nat, o < 2 → u < 40 → v < 40 → B01 (J' 341 (1600 * o + 40 * u + v)) (LK J known o u v))
theorem s_findClashR {w : Wd} {S : Sh} {J : Jm} {Q : Out → Sh → Jm → Prop} (hL : Lay S) (known : Int) (hH : MHeld J) (hT : MTab J) (hX : MTxt J) (hS : MShr J) (K : ∀ J', PCl J known J' → Q (.inl (some (vI (isS (clashM J known))))) S J') : V w 4 mX5_findClash 0 (ent mX5_findClash [vR 313, vI known]) [] S J Q :=
  s_findClash hL known hH hT hX hS (fun J' h1 h2 h3 h4 => K J' ⟨h1, h2, h3, h4⟩)
/-- the way from a sign to b, n links long: at each step the least one that is nearer -/
noncomputable def wkS (E : Nat → Nat → Prop) (b : Nat) : Nat → Nat → List (Nat × Nat)
  | 0, _ => []
  | n + 1, now => match dbI (fun t => pB (E now t) && decide (dO E b t = some n)) 40 0 with
    | none => []
    | some t => (now, t) :: wkS E b n t
noncomputable def walkL (E : Nat → Nat → Prop) (o b a : Nat) : List (Nat × Nat × Nat) := match dO E b a with
  | none => []
  | some n => (wkS E b n a).map (fun p => (o, p.1, p.2))
def RsAt (J : Jm) (L : List (Nat × Nat × Nat)) : Prop := J 313 53 = (L.length : Nat) ∧ ∀ k, k < L.length → J 347 (3 * k) = ((L.getD k (0, 0, 0)).1 : Nat) ∧ J 347 (3 * k + 1) = ((L.getD k (0, 0, 0)).2.1 : Nat) ∧ J 347 (3 * k + 2) = ((L.getD k (0, 0, 0)).2.2 : Nat)
def PWk (J : Jm) (o a b : Int) (J' : Jm) : Prop := (∀ x k, x ≠ 345 → x ≠ 347 → ¬ (x = 313 ∧ k = 53) → J' x k = J x k) ∧ ∀ L, RsAt J L → RsAt J' (L ++ walkL (lkE J o.toNat) o.toNat b.toNat a.toNat)
def WkOk (J : Jm) (o a b : Int) : Prop := (0 ≤ o ∧ o < 2) ∧ (0 ≤ a ∧ a < 40) ∧ (0 ≤ b ∧ b < 40) ∧ (∀ p : Nat, p < 3200 → J 341 p = 0 ∨ J 341 p = 1) ∧ (∀ u v, lkE J o.toNat u v → lkE J o.toNat v u) ∧ ∃ n : Nat, dO (lkE J o.toNat) b.toNat a.toNat = some n ∧ 0 ≤ J 313 53 ∧ J 313 53 + n ≤ 80
theorem RN_front {E : Nat → Nat → Prop} {a c : Nat} (he : E a c) : ∀ {n b : Nat}, RN E n c b → RN E (n + 1) a b
  | 0, b, h => ⟨a, rfl, by cases h; exact he⟩
  | n + 1, b, ⟨d, h1, h2⟩ => ⟨d, RN_front he h1, h2⟩
theorem RN_sym {E : Nat → Nat → Prop} (hs : ∀ u v, E u v → E v u) : ∀ {n a b : Nat}, RN E n a b → RN E n b a
  | 0, a, b, h => Eq.symm h
  | n + 1, a, b, ⟨c, h1, h2⟩ => RN_front (hs c b h2) (RN_sym hs h1)
theorem dO_sym {E : Nat → Nat → Prop} (hs : ∀ u v, E u v → E v u) (a b : Nat) : dO E a b = dO E b a := by
  cases e : dO E a b with
  | some n =>
    have h := dO_is e
    exact (dO_some ⟨RN_sym hs h.1, fun m hm q => h.2 m hm (RN_sym hs q)⟩).symm
  | none =>
    cases e2 : dO E b a with
    | none => rfl
    | some n =>
      have h := dO_is e2
      rw [dO_some ⟨RN_sym hs h.1, fun m hm q => h.2 m hm (RN_sym hs q)⟩] at e
      cases e
theorem dO_zero {E : Nat → Nat → Prop} {a b : Nat} (h : dO E a b = some 0) : a = b := (dO_is h).1
theorem dO_self (E : Nat → Nat → Prop) (a : Nat) : dO E a a = some 0 := dO_some ⟨rfl, fun m hm => absurd hm (by omega)⟩
/-- one step nearer there is always -/
theorem wk_ex {E : Nat → Nat → Prop} (hs : ∀ u v, E u v → E v u) (h40 : ∀ u v, E u v → u < 40 ∧ v < 40) {b now n : Nat} (h : dO E b now = some (n + 1)) : ∃ t, t < 40 ∧ E now t ∧ dO E b t = some n := by
  obtain ⟨⟨c, h1, h2⟩, h3⟩ := dO_is h
  refine ⟨c, (h40 c now h2).1, hs c now h2, dO_some ⟨h1, fun m hm q => h3 (m + 1) (by omega) ⟨c, q, h2⟩⟩⟩
theorem dbI_from {p : Nat → Bool} : ∀ (v z : Nat) {t : Nat}, dbI p v z = some t → z ≤ t ∧ t < z + v ∧ p t = true ∧ ∀ u, z ≤ u → u < t → p u = false
  | 0, z, t, h => by cases h
  | v + 1, z, t, h => by
    rw [dbI] at h
    by_cases c : p z = true
    · rw [if_pos c] at h
      cases h
      exact ⟨by omega, by omega, c, fun u h1 h2 => absurd h1 (by omega)⟩
    · rw [if_neg c] at h
      obtain ⟨h1, h2, h3, h4⟩ := dbI_from v (z + 1) h
      refine ⟨by omega, by omega, h3, fun u h5 h6 => ?_⟩
      by_cases e : u = z
      · subst e; exact Bool.eq_false_iff.mpr c
      · exact h4 u (by omega) h6
theorem dbI_none {p : Nat → Bool} : ∀ (v z : Nat), dbI p v z = none → ∀ u, z ≤ u → u < z + v → p u = false
  | 0, z, _ => fun u h1 h2 => absurd h1 (by omega)
  | v + 1, z, h => by
    rw [dbI] at h
    by_cases c : p z = true
    · rw [if_pos c] at h
      cases h
    · rw [if_neg c] at h
      intro u h5 h6
      by_cases e : u = z
      · subst e; exact Bool.eq_false_iff.mpr c
      · exact dbI_none v (z + 1) h u (by omega) (by omega)
theorem wkS_step {E : Nat → Nat → Prop} (hs : ∀ u v, E u v → E v u) (h40 : ∀ u v, E u v → u < 40 ∧ v < 40) {b now n : Nat} (h : dO E b now = some (n + 1)) : ∃ t, t < 40 ∧ E now t ∧ dO E b t = some n ∧ (∀ u, u < t → ¬ (E now u ∧ dO E b u = some n)) ∧ wkS E b (n + 1) now = (now, t) :: wkS E b n t := by
  obtain ⟨t0, h1, h2, h3⟩ := wk_ex hs h40 h
  cases e : dbI (fun t => pB (E now t) && decide (dO E b t = some n)) 40 0 with
  | none =>
    have := dbI_none _ _ e t0 (by omega) (by omega)
    rw [pB_t.mpr h2, decide_eq_true h3] at this
    cases this
  | some t =>
    obtain ⟨-, q2, q3, q4⟩ := dbI_from _ _ e
    rw [Bool.and_eq_true, pB_t, decide_eq_true_iff] at q3
    refine ⟨t, by omega, q3.1, q3.2, fun u hu q => ?_, ?_⟩
    · have := q4 u (by omega) hu
      rw [pB_t.mpr q.1, decide_eq_true q.2] at this
      cases this
    · rw [wkS, e]
theorem RsAt.push {J : Jm} {L : List (Nat × Nat × Nat)} (h : RsAt J L) (x : Nat × Nat × Nat) : RsAt (up (up (up (up J 347 (3 * L.length) (x.1 : Nat)) 347 (3 * L.length + 1) (x.2.1 : Nat)) 347 (3 * L.length + 2) (x.2.2 : Nat)) 313 53 (((L.length + 1 : Nat) : Int))) (L ++ [x]) := by
  refine ⟨by rw [up_self, List.length_append]; rfl, fun k hk => ?_⟩
  rw [List.length_append] at hk
  have hk1 : k < L.length + 1 := hk
  have n1 : ∀ j : Nat, ¬ (j = 3 * L.length ∨ j = 3 * L.length + 1 ∨ j = 3 * L.length + 2) → (up (up (up (up J 347 (3 * L.length) (x.1 : Nat)) 347 (3 * L.length + 1) (x.2.1 : Nat)) 347 (3 * L.length + 2) (x.2.2 : Nat)) 313 53 (((L.length + 1 : Nat) : Int))) 347 j = J 347 j := fun j hj => by
    rw [up_na (by decide), up_nk (by omega), up_nk (by omega), up_nk (by omega)]
  by_cases e : k = L.length
  · subst e
    have eg : (L ++ [x]).getD L.length (0, 0, 0) = x := by
      rw [List.getD_eq_getElem?_getD, List.getElem?_append_right (Nat.le_refl _), Nat.sub_self]
      rfl
    rw [eg]
    refine ⟨?_, ?_, ?_⟩
    · rw [up_na (by decide), up_nk (by omega), up_nk (by omega), up_self]
    · rw [up_na (by decide), up_nk (by omega), up_self]
    · rw [up_na (by decide), up_self]
  · have eg : (L ++ [x]).getD k (0, 0, 0) = L.getD k (0, 0, 0) := by
      rw [List.getD_eq_getElem?_getD, List.getElem?_append_left (by omega), ← List.getD_eq_getElem?_getD]
    rw [eg, n1 _ (by omega), n1 _ (by omega), n1 _ (by omega)]
    exact h.2 k (by omega)
theorem s_walks {w : Wd} {S : Sh} {J : Jm} {Q : Out → Sh → Jm → Prop} (hL : Lay S) (o a b : Int) (h : WkOk J o a b) (K : ∀ J', PWk J o a b J' → Q (.inl none) S J') : V w 1 mX5_walks 0 (ent mX5_walks [vR 313, vI o, vI a, vI b]) [] S J Q := by
  obtain ⟨ho, ha, hb, h01, hs, n, hn, r0, r1⟩ := h
  obtain ⟨o, rfl⟩ : ∃ m : Nat, o = m := ⟨o.toNat, by omega⟩
  obtain ⟨a, rfl⟩ : ∃ m : Nat, a = m := ⟨a.toNat, by omega⟩
  obtain ⟨b, rfl⟩ : ∃ m : Nat, b = m := ⟨b.toNat, by omega⟩
  obtain ⟨R, eR⟩ : ∃ m : Nat, J 313 53 = m := ⟨(J 313 53).toNat, by omega⟩
  unfold PWk at K
  rw [Int.toNat_natCast, Int.toNat_natCast, Int.toNat_natCast] at K
  rw [Int.toNat_natCast] at hs
  rw [Int.toNat_natCast, Int.toNat_natCast, Int.toNat_natCast] at hn
  unfold walkL at K
  rw [hn] at K
  dsimp only at K
  have h40 : ∀ u v, lkE J o u v → u < 40 ∧ v < 40 := fun u v q => ⟨q.1, q.2.1⟩
  refine gX5_walks_0 hL o a b ⟨by omega, by omega, h01, fun J1 hf => ?_⟩
  obtain ⟨f1, hfar⟩ := hf
  rw [Int.toNat_natCast, Int.toNat_natCast] at hfar
  have hD := fun t (ht : t < 40) => hfar.d (b := t) ht
  have loop : ∀ (m now q : Nat) (J2 : Jm), dO (lkE J o) b now = some m → now < 40 → q + m ≤ 80 → J2 313 53 = (q : Int) → (∀ x k, x ≠ 347 → ¬ (x = 313 ∧ k = 53) → J2 x k = J1 x k) → (∀ J', (∀ x k, x ≠ 347 → ¬ (x = 313 ∧ k = 53) → J' x k = J1 x k) → (∀ L, RsAt J2 L → RsAt J' (L ++ (wkS (lkE J o) b m now).map (fun p => (o, p.1, p.2)))) → Q (.inl none) S J') → V w 1 mX5_walks 9 [some (vR 313), some (vI (o : Int)), none, some (vI (b : Int)), some (vI (now : Int)), none] [] S J2 Q := by
    intro m
    induction m with
    | zero =>
      intro now q J2 hd hnow hq eq f2 KK
      obtain rfl := dO_zero hd
      refine gX5_walks_9 hL o b b (br_y (by omega) ?_)
      exact KK J2 f2 (fun L hl => by rw [wkS, List.map_nil, List.append_nil]; exact hl)
    | succ m ih =>
      intro now q J2 hd hnow hq eq f2 KK
      have hne : now ≠ b := fun e => by
        rw [e, dO_self] at hd
        cases hd
      obtain ⟨t, ht, te, td, tl, tw⟩ := wkS_step hs h40 hd
      refine gX5_walks_9 hL o b now (br_n (by omega) ?_)
      have hm40 := (hD now hnow).2 _ hd
      have e345 : ∀ s, s < 40 → J2 345 s = oI (dO (lkE J o) b s) := fun s hs => by rw [f2 _ _ (by decide) (by omega)]; exact (hD s hs).1
      have e341 : ∀ p, J2 341 p = J 341 p := fun p => by rw [f2 _ _ (by decide) (by omega), f1 _ _ (by decide)]
      have enow : J2 345 now = ((m + 1 : Nat) : Int) := by rw [e345 now hnow, hd]; rfl
      have find : ∀ (v u : Nat), u + v = t → V w 1 mX5_walks 18 [some (vR 313), some (vI (o : Int)), none, some (vI (b : Int)), some (vI (now : Int)), some (vI (u : Int))] [] S J2 Q := by
        intro v
        induction v with
        | zero =>
          intro u hu
          obtain rfl : u = t := by omega
          refine gX5_walks_18 (J := J2) hL o b now u ?_
          rw [e341, te.2.2, e345 u ht, td, enow, eq]
          dsimp only [oI]
          (repeat' (first | ((with_reducible refine And.intro ?_ ?_); omega)))
          refine br_n (by omega) ?_
          (repeat' (first | ((with_reducible refine And.intro ?_ ?_); omega)))
          refine br_y (by push_cast; omega) ?_
          (repeat' (first | ((with_reducible refine And.intro ?_ ?_); omega)))
          have z1 : (3 * (q : Int)).toNat = 3 * q := by omega
          have z2 : (3 * (q : Int) + 1).toNat = 3 * q + 1 := by omega
          have z3 : (3 * (q : Int) + 2).toNat = 3 * q + 2 := by omega
          rw [z1, z2, z3, show (q : Int) + 1 = ((q + 1 : Nat) : Int) by omega]
          refine ih u (q + 1) _ td ht (by omega) up_self (fun x k q1 q2 => ?_) (fun J' f' r' => KK J' f' (fun L hl => ?_))
          · rw [up_ne q2, up_na q1, up_na q1, up_na q1, f2 x k q1 q2]
          · obtain rfl : q = L.length := by have := hl.1; omega
            have := r' _ (hl.push (o, now, u))
            rw [List.append_assoc] at this
            rw [tw]
            exact this
        | succ v ihv =>
          intro u hu
          refine gX5_walks_18 (J := J2) hL o b now u ?_
          have hno := tl u (by omega)
          rw [e341, e345 u (by omega), enow]
          (repeat' (first | ((with_reducible refine And.intro ?_ ?_); omega)))
          refine br_i (fun c1 => ?_) (fun c1 => ?_)
          · (repeat' (first | ((with_reducible refine And.intro ?_ ?_); omega)))
            exact ihv (u + 1) (by omega)
          · (repeat' (first | ((with_reducible refine And.intro ?_ ?_); omega)))
            refine br_n (fun c2 => ?_) ?_
            · refine hno ⟨⟨hnow, by omega, ?_⟩, ?_⟩
              · rcases h01 (1600 * o + 40 * now + u) (by omega) with q1 | q1
                · exact absurd q1 c1
                · exact q1
              · cases e : dO (lkE J o) b u with
                | none => rw [e] at c2; simp only [oI] at c2; omega
                | some z => rw [e] at c2; simp only [oI] at c2; congr 1; omega
            · (repeat' (first | ((with_reducible refine And.intro ?_ ?_); omega)))
              exact ihv (u + 1) (by omega)
      exact find t 0 (by omega)
  refine loop n a R J1 hn (by omega) (by omega) (by rw [f1 _ _ (by decide)]; exact eR) (fun _ _ _ _ => rfl) (fun J' f' r' => K J' ⟨fun x k q1 q2 q3 => by rw [f' x k q2 q3, f1 x k q1], fun L hl => r' L ⟨by rw [f1 _ _ (by decide)]; exact hl.1, fun k hk => ?_⟩⟩)
  rw [f1 _ _ (by decide), f1 _ _ (by decide), f1 _ _ (by decide)]
  exact hl.2 k hk
theorem gX5_clash_0 {w : Wd} {S : Sh} {J : Jm} {Q : Out → Sh → Jm → Prop} (hL : Lay S) (known : Int) (what : Int)
    (K : Br (0 ≤ known ∧ known ≤ (J 313 1)) (Br ((0 : Int) ≤ what ∧ what ≤ (3 : Int)) ((MHeld (up J 313 0 0)) ∧ (MTab (up J 313 0 0)) ∧ (MTxt (up J 313 0 0)) ∧ (MShr (up J 313 0 0)) ∧ (∀ (J1 : Jm), PCl (up J 313 0 0) known J1 → Br (isS (clashM (up J 313 0 0) known) = 0) (Q (.inl (some (vI (-1)))) S J1) (Br (what = 0) (Q (.inl (some (vI (J1 313 47)))) S J1) (Br (what = 1) (Q (.inl (some (vI (J1 313 48)))) S J1) (Br (what = 2) (Q (.inl (some (vI (J1 313 49)))) S J1) (Q (.inl (some (vI (J1 313 50)))) S J1)))))) (Q (.inl (some (vI (-1)))) S (up J 313 0 0))) (Q (.inl (some (vI (-1)))) S (up J 313 0 0))) :
    V w 5 mX5_clash 0 (ent mX5_clash [vR 313, vI known, vI what]) [] S J Q := by
  show V w 5 mX5_clash 0 [some (vR 313), some (vI known), some (vI what)] [] S J Q
  refine v_aload_n dX5_clash_0 rfl ?_
  refine v_iconst dX5_clash_1 (in_lit (by decide)) ?_
  refine v_putI dX5_clash_2 frX5_1_5 (fun _ _ _ h => by cases h; exact Or.inl rfl) rfl rfl zfit_int (L_313 hL).1 ?_
  show V w 5 mX5_clash 5 [some (vR 313), some (vI known), some (vI what)] [] S (up J 313 0 0) Q
  refine v_aload_n dX5_clash_5 rfl ?_
  refine v_iload_n dX5_clash_6 rfl ?_
  refine v_callV (d' := 0) (rest := []) [vI known] dX5_clash_7 vrX5_298_5 (L_313 hL).1 rfl rfl (one_I one_nil) (Nat.le_of_ble_eq_true rfl) (Nat.le_of_ble_eq_true rfl) (Nat.le_of_ble_eq_true rfl) ?_
  obtain ⟨K1, K2⟩ := K
  refine sX5_isKnown hL known  (fun c1 => ?_) (fun c1 => ?_)
  · have K := K1 c1
    show V w 5 mX5_clash 10 [some (vR 313), some (vI known), some (vI what)] [vI 1] S (up J 313 0 0) Q
    refine v_if_eq 30 dX5_clash_10 (by decide) (fun cQ => absurd cQ (by decide)) (fun _ => ?_)
    refine v_iload_n dX5_clash_13 rfl ?_
    refine v_iconst dX5_clash_14 (in_lit (by decide)) ?_
    refine v_iconst dX5_clash_15 (in_lit (by decide)) ?_
    refine v_callS (d' := 0) (rest := []) [vI what, vI 0, vI 3] dX5_clash_16 srX5_169 rfl (one_I (one_I (one_I one_nil))) (Nat.le_of_ble_eq_true rfl) (Nat.le_of_ble_eq_true rfl) (Nat.le_of_ble_eq_true rfl) ?_
    obtain ⟨K1, K2⟩ := K
    refine sX5_within hL what (0 : Int) (3 : Int)  (fun c2 => ?_) (fun c2 => ?_)
    · have K := K1 c2
      show V w 5 mX5_clash 19 [some (vR 313), some (vI known), some (vI what)] [vI 1] S (up J 313 0 0) Q
      refine v_if_eq 30 dX5_clash_19 (by decide) (fun cQ => absurd cQ (by decide)) (fun _ => ?_)
      refine v_aload_n dX5_clash_22 rfl ?_
      refine v_iload_n dX5_clash_23 rfl ?_
      refine v_callV (d' := 4) (rest := []) [vI known] dX5_clash_24 vrX5_371_5 (L_313 hL).1 rfl rfl (one_I one_nil) (Nat.le_of_ble_eq_true rfl) (Nat.le_of_ble_eq_true rfl) (Nat.le_of_ble_eq_true rfl) ?_
      obtain ⟨o1, K⟩ := K
      obtain ⟨o2, K⟩ := K
      obtain ⟨o3, K⟩ := K
      obtain ⟨o4, K⟩ := K
      refine s_findClashR hL known o1 o2 o3 o4 (fun J1 hp => ?_)
      have K := K J1 hp
      show V w 5 mX5_clash 27 [some (vR 313), some (vI known), some (vI what)] [vI (isS (clashM (up J 313 0 0) known))] S J1 Q
      obtain ⟨K1, K2⟩ := K
      refine v_if_ne 32 dX5_clash_27 (by decide) (fun c3 => ?_) (fun c3 => ?_)
      · have K := K2 c3
        refine v_iload_n dX5_clash_32 rfl ?_
        obtain ⟨K1, K2⟩ := K
        refine v_if_ne 43 dX5_clash_33 (by decide) (fun c4 => ?_) (fun c4 => ?_)
        · have K := K2 c4
          refine v_iload_n dX5_clash_43 rfl ?_
          refine v_iconst dX5_clash_44 (in_lit (by decide)) ?_
          obtain ⟨K1, K2⟩ := K
          refine v_icmp_ne 55 dX5_clash_45 (by decide) (fun c5 => ?_) (fun c5 => ?_)
          · have K := K2 c5
            refine v_iload_n dX5_clash_55 rfl ?_
            refine v_iconst dX5_clash_56 (in_lit (by decide)) ?_
            obtain ⟨K1, K2⟩ := K
            refine v_icmp_ne 67 dX5_clash_57 (by decide) (fun c6 => ?_) (fun c6 => ?_)
            · have K := K2 c6
              refine v_aload_n dX5_clash_67 rfl ?_
              refine v_getI dX5_clash_68 frX5_352_5 rfl rfl (L_313 hL).1 ?_
              exact v_iret dX5_clash_71 rfl rfl K
            · have K := K1 c6
              refine v_aload_n dX5_clash_60 rfl ?_
              refine v_getI dX5_clash_61 frX5_365_5 rfl rfl (L_313 hL).1 ?_
              refine v_goto 71 dX5_clash_64 (by decide) ?_
              exact v_iret dX5_clash_71 rfl rfl K
          · have K := K1 c5
            refine v_aload_n dX5_clash_48 rfl ?_
            refine v_getI dX5_clash_49 frX5_362_5 rfl rfl (L_313 hL).1 ?_
            refine v_goto 71 dX5_clash_52 (by decide) ?_
            exact v_iret dX5_clash_71 rfl rfl K
        · have K := K1 c4
          refine v_aload_n dX5_clash_36 rfl ?_
          refine v_getI dX5_clash_37 frX5_359_5 rfl rfl (L_313 hL).1 ?_
          refine v_goto 71 dX5_clash_40 (by decide) ?_
          exact v_iret dX5_clash_71 rfl rfl K
      · have K := K1 c3
        refine v_iconst dX5_clash_30 (in_lit (by decide)) ?_
        exact v_iret dX5_clash_31 rfl rfl K
    · have K := K2 c2
      show V w 5 mX5_clash 19 [some (vR 313), some (vI known), some (vI what)] [vI 0] S (up J 313 0 0) Q
      refine v_if_eq 30 dX5_clash_19 (by decide) (fun _ => ?_) (fun cQ => absurd cQ (by decide))
      refine v_iconst dX5_clash_30 (in_lit (by decide)) ?_
      exact v_iret dX5_clash_31 rfl rfl K
  · have K := K2 c1
    show V w 5 mX5_clash 10 [some (vR 313), some (vI known), some (vI what)] [vI 0] S (up J 313 0 0) Q
    refine v_if_eq 30 dX5_clash_10 (by decide) (fun _ => ?_) (fun cQ => absurd cQ (by decide))
    refine v_iconst dX5_clash_30 (in_lit (by decide)) ?_
    exact v_iret dX5_clash_31 rfl rfl K
theorem gX5_reason_0 {w : Wd} {S : Sh} {J : Jm} {Q : Out → Sh → Jm → Prop} (hL : Lay S) (known : Int) (i : Int) (what : Int)
    (K : Br (0 ≤ known ∧ known ≤ (J 313 1)) (Br ((0 : Int) ≤ what ∧ what ≤ (2 : Int)) ((MHeld (up J 313 0 0)) ∧ (MTab (up J 313 0 0)) ∧ (MTxt (up J 313 0 0)) ∧ (MShr (up J 313 0 0)) ∧ (∀ (J1 : Jm), PCl (up J 313 0 0) known J1 → Br (isS (clashM (up J 313 0 0) known) = 0) (Q (.inl (some (vI (-1)))) S J1) (Br (J1 313 49 = 1) ((WkOk (up J1 313 53 0) (0 : Int) (J1 313 47) (J1 313 48)) ∧ (∀ (J2 : Jm), PWk (up J1 313 53 0) (0 : Int) (J1 313 47) (J1 313 48) J2 → Br (J2 313 49 = 1) ((WkOk J2 (1 : Int) (J2 313 47) (J2 313 48)) ∧ (∀ (J3 : Jm), PWk J2 (1 : Int) (J2 313 47) (J2 313 48) J3 → (-2147483648 ≤ (J3 313 53) - 1 ∧ (J3 313 53) - 1 ≤ 2147483647) ∧ Br ((0 : Int) ≤ i ∧ i ≤ ((J3 313 53) - 1)) ((-2147483648 ≤ 3 * i ∧ 3 * i ≤ 2147483647) ∧ (-2147483648 ≤ (3 * i) + what ∧ (3 * i) + what ≤ 2147483647) ∧ (0 ≤ (3 * i) + what) ∧ ((3 * i) + what < 240) ∧ Q (.inl (some (vI (J3 347 ((3 * i) + what).toNat)))) S J3) (Q (.inl (some (vI (-1)))) S J3))) (Br (J2 313 51 = 1) ((WkOk J2 (1 : Int) (J2 313 47) (J2 313 48)) ∧ (∀ (J4 : Jm), PWk J2 (1 : Int) (J2 313 47) (J2 313 48) J4 → (-2147483648 ≤ (J4 313 53) - 1 ∧ (J4 313 53) - 1 ≤ 2147483647) ∧ Br ((0 : Int) ≤ i ∧ i ≤ ((J4 313 53) - 1)) ((-2147483648 ≤ 3 * i ∧ 3 * i ≤ 2147483647) ∧ (-2147483648 ≤ (3 * i) + what ∧ (3 * i) + what ≤ 2147483647) ∧ (0 ≤ (3 * i) + what) ∧ ((3 * i) + what < 240) ∧ Q (.inl (some (vI (J4 347 ((3 * i) + what).toNat)))) S J4) (Q (.inl (some (vI (-1)))) S J4))) ((-2147483648 ≤ (J2 313 53) - 1 ∧ (J2 313 53) - 1 ≤ 2147483647) ∧ Br ((0 : Int) ≤ i ∧ i ≤ ((J2 313 53) - 1)) ((-2147483648 ≤ 3 * i ∧ 3 * i ≤ 2147483647) ∧ (-2147483648 ≤ (3 * i) + what ∧ (3 * i) + what ≤ 2147483647) ∧ (0 ≤ (3 * i) + what) ∧ ((3 * i) + what < 240) ∧ Q (.inl (some (vI (J2 347 ((3 * i) + what).toNat)))) S J2) (Q (.inl (some (vI (-1)))) S J2))))) (Br (J1 313 51 = 0) ((WkOk (up J1 313 53 0) (0 : Int) (J1 313 47) (J1 313 48)) ∧ (∀ (J6 : Jm), PWk (up J1 313 53 0) (0 : Int) (J1 313 47) (J1 313 48) J6 → Br (J6 313 49 = 1) ((WkOk J6 (1 : Int) (J6 313 47) (J6 313 48)) ∧ (∀ (J7 : Jm), PWk J6 (1 : Int) (J6 313 47) (J6 313 48) J7 → (-2147483648 ≤ (J7 313 53) - 1 ∧ (J7 313 53) - 1 ≤ 2147483647) ∧ Br ((0 : Int) ≤ i ∧ i ≤ ((J7 313 53) - 1)) ((-2147483648 ≤ 3 * i ∧ 3 * i ≤ 2147483647) ∧ (-2147483648 ≤ (3 * i) + what ∧ (3 * i) + what ≤ 2147483647) ∧ (0 ≤ (3 * i) + what) ∧ ((3 * i) + what < 240) ∧ Q (.inl (some (vI (J7 347 ((3 * i) + what).toNat)))) S J7) (Q (.inl (some (vI (-1)))) S J7))) (Br (J6 313 51 = 1) ((WkOk J6 (1 : Int) (J6 313 47) (J6 313 48)) ∧ (∀ (J8 : Jm), PWk J6 (1 : Int) (J6 313 47) (J6 313 48) J8 → (-2147483648 ≤ (J8 313 53) - 1 ∧ (J8 313 53) - 1 ≤ 2147483647) ∧ Br ((0 : Int) ≤ i ∧ i ≤ ((J8 313 53) - 1)) ((-2147483648 ≤ 3 * i ∧ 3 * i ≤ 2147483647) ∧ (-2147483648 ≤ (3 * i) + what ∧ (3 * i) + what ≤ 2147483647) ∧ (0 ≤ (3 * i) + what) ∧ ((3 * i) + what < 240) ∧ Q (.inl (some (vI (J8 347 ((3 * i) + what).toNat)))) S J8) (Q (.inl (some (vI (-1)))) S J8))) ((-2147483648 ≤ (J6 313 53) - 1 ∧ (J6 313 53) - 1 ≤ 2147483647) ∧ Br ((0 : Int) ≤ i ∧ i ≤ ((J6 313 53) - 1)) ((-2147483648 ≤ 3 * i ∧ 3 * i ≤ 2147483647) ∧ (-2147483648 ≤ (3 * i) + what ∧ (3 * i) + what ≤ 2147483647) ∧ (0 ≤ (3 * i) + what) ∧ ((3 * i) + what < 240) ∧ Q (.inl (some (vI (J6 347 ((3 * i) + what).toNat)))) S J6) (Q (.inl (some (vI (-1)))) S J6))))) (Br (J1 313 51 = 1) ((WkOk (up J1 313 53 0) (1 : Int) (J1 313 47) (J1 313 48)) ∧ (∀ (J5 : Jm), PWk (up J1 313 53 0) (1 : Int) (J1 313 47) (J1 313 48) J5 → (-2147483648 ≤ (J5 313 53) - 1 ∧ (J5 313 53) - 1 ≤ 2147483647) ∧ Br ((0 : Int) ≤ i ∧ i ≤ ((J5 313 53) - 1)) ((-2147483648 ≤ 3 * i ∧ 3 * i ≤ 2147483647) ∧ (-2147483648 ≤ (3 * i) + what ∧ (3 * i) + what ≤ 2147483647) ∧ (0 ≤ (3 * i) + what) ∧ ((3 * i) + what < 240) ∧ Q (.inl (some (vI (J5 347 ((3 * i) + what).toNat)))) S J5) (Q (.inl (some (vI (-1)))) S J5))) (Br ((0 : Int) ≤ i ∧ i ≤ (-1 : Int)) ((-2147483648 ≤ 3 * i ∧ 3 * i ≤ 2147483647) ∧ (-2147483648 ≤ (3 * i) + what ∧ (3 * i) + what ≤ 2147483647) ∧ (0 ≤ (3 * i) + what) ∧ ((3 * i) + what < 240) ∧ Q (.inl (some (vI (J1 347 ((3 * i) + what).toNat)))) S (up J1 313 53 0)) (Q (.inl (some (vI (-1)))) S (up J1 313 53 0)))))))) (Q (.inl (some (vI (-1)))) S (up J 313 0 0))) (Q (.inl (some (vI (-1)))) S (up J 313 0 0))) :
    V w 5 mX5_reason 0 (ent mX5_reason [vR 313, vI known, vI i, vI what]) [] S J Q := by
  show V w 5 mX5_reason 0 [some (vR 313), some (vI known), some (vI i), some (vI what)] [] S J Q
  refine v_aload_n dX5_reason_0 rfl ?_
  refine v_iconst dX5_reason_1 (in_lit (by decide)) ?_
  refine v_putI dX5_reason_2 frX5_1_5 (fun _ _ _ h => by cases h; exact Or.inl rfl) rfl rfl zfit_int (L_313 hL).1 ?_
  show V w 5 mX5_reason 5 [some (vR 313), some (vI known), some (vI i), some (vI what)] [] S (up J 313 0 0) Q
  refine v_aload_n dX5_reason_5 rfl ?_
  refine v_iload_n dX5_reason_6 rfl ?_
  refine v_callV (d' := 0) (rest := []) [vI known] dX5_reason_7 vrX5_298_5 (L_313 hL).1 rfl rfl (one_I one_nil) (Nat.le_of_ble_eq_true rfl) (Nat.le_of_ble_eq_true rfl) (Nat.le_of_ble_eq_true rfl) ?_
  obtain ⟨K1, K2⟩ := K
  refine sX5_isKnown hL known  (fun c1 => ?_) (fun c1 => ?_)
  · have K := K1 c1
    show V w 5 mX5_reason 10 [some (vR 313), some (vI known), some (vI i), some (vI what)] [vI 1] S (up J 313 0 0) Q
    refine v_if_eq 30 dX5_reason_10 (by decide) (fun cQ => absurd cQ (by decide)) (fun _ => ?_)
    refine v_iload_n dX5_reason_13 rfl ?_
    refine v_iconst dX5_reason_14 (in_lit (by decide)) ?_
    refine v_iconst dX5_reason_15 (in_lit (by decide)) ?_
    refine v_callS (d' := 0) (rest := []) [vI what, vI 0, vI 2] dX5_reason_16 srX5_169 rfl (one_I (one_I (one_I one_nil))) (Nat.le_of_ble_eq_true rfl) (Nat.le_of_ble_eq_true rfl) (Nat.le_of_ble_eq_true rfl) ?_
    obtain ⟨K1, K2⟩ := K
    refine sX5_within hL what (0 : Int) (2 : Int)  (fun c2 => ?_) (fun c2 => ?_)
    · have K := K1 c2
      show V w 5 mX5_reason 19 [some (vR 313), some (vI known), some (vI i), some (vI what)] [vI 1] S (up J 313 0 0) Q
      refine v_if_eq 30 dX5_reason_19 (by decide) (fun cQ => absurd cQ (by decide)) (fun _ => ?_)
      refine v_aload_n dX5_reason_22 rfl ?_
      refine v_iload_n dX5_reason_23 rfl ?_
      refine v_callV (d' := 4) (rest := []) [vI known] dX5_reason_24 vrX5_371_5 (L_313 hL).1 rfl rfl (one_I one_nil) (Nat.le_of_ble_eq_true rfl) (Nat.le_of_ble_eq_true rfl) (Nat.le_of_ble_eq_true rfl) ?_
      obtain ⟨o1, K⟩ := K
      obtain ⟨o2, K⟩ := K
      obtain ⟨o3, K⟩ := K
      obtain ⟨o4, K⟩ := K
      refine s_findClashR hL known o1 o2 o3 o4 (fun J1 hp => ?_)
      have K := K J1 hp
      show V w 5 mX5_reason 27 [some (vR 313), some (vI known), some (vI i), some (vI what)] [vI (isS (clashM (up J 313 0 0) known))] S J1 Q
      obtain ⟨K1, K2⟩ := K
      refine v_if_ne 32 dX5_reason_27 (by decide) (fun c3 => ?_) (fun c3 => ?_)
      · have K := K2 c3
        refine v_aload_n dX5_reason_32 rfl ?_
        refine v_iconst dX5_reason_33 (in_lit (by decide)) ?_
        refine v_putI dX5_reason_34 frX5_374_5 (fun _ _ _ h => by cases h; exact Or.inl rfl) rfl rfl zfit_int (L_313 hL).1 ?_
        show V w 5 mX5_reason 37 [some (vR 313), some (vI known), some (vI i), some (vI what)] [] S (up J1 313 53 0) Q
        refine v_aload_n dX5_reason_37 rfl ?_
        refine v_getI dX5_reason_38 frX5_365_5 rfl rfl (L_313 hL).1 ?_
        show V w 5 mX5_reason 41 [some (vR 313), some (vI known), some (vI i), some (vI what)] [vI (J1 313 49)] S (up J1 313 53 0) Q
        refine v_iconst dX5_reason_41 (in_lit (by decide)) ?_
        obtain ⟨K1, K2⟩ := K
        refine v_icmp_eq 52 dX5_reason_42 (by decide) (fun c4 => ?_) (fun c4 => ?_)
        · have K := K1 c4
          refine v_aload_n dX5_reason_52 rfl ?_
          refine v_iconst dX5_reason_53 (in_lit (by decide)) ?_
          refine v_aload_n dX5_reason_54 rfl ?_
          refine v_getI dX5_reason_55 frX5_359_5 rfl rfl (L_313 hL).1 ?_
          show V w 5 mX5_reason 58 [some (vR 313), some (vI known), some (vI i), some (vI what)] [vI (J1 313 47), vI 0, vR 313] S (up J1 313 53 0) Q
          refine v_aload_n dX5_reason_58 rfl ?_
          refine v_getI dX5_reason_59 frX5_362_5 rfl rfl (L_313 hL).1 ?_
          show V w 5 mX5_reason 62 [some (vR 313), some (vI known), some (vI i), some (vI what)] [vI (J1 313 48), vI (J1 313 47), vI 0, vR 313] S (up J1 313 53 0) Q
          refine v_callV (d' := 1) (rest := []) [vI 0, vI (J1 313 47), vI (J1 313 48)] dX5_reason_62 vrX5_377_5 (L_313 hL).1 rfl rfl (one_I (one_I (one_I one_nil))) (Nat.le_of_ble_eq_true rfl) (Nat.le_of_ble_eq_true rfl) (Nat.le_of_ble_eq_true rfl) ?_
          obtain ⟨o5, K⟩ := K
          refine s_walks hL (0 : Int) (J1 313 47) (J1 313 48) o5 (fun J2 hp => ?_)
          have K := K J2 hp
          show V w 5 mX5_reason 65 [some (vR 313), some (vI known), some (vI i), some (vI what)] [] S J2 Q
          refine v_aload_n dX5_reason_65 rfl ?_
          refine v_getI dX5_reason_66 frX5_365_5 rfl rfl (L_313 hL).1 ?_
          refine v_iconst dX5_reason_69 (in_lit (by decide)) ?_
          obtain ⟨K1, K2⟩ := K
          refine v_icmp_eq 81 dX5_reason_70 (by decide) (fun c5 => ?_) (fun c5 => ?_)
          · have K := K1 c5
            refine v_aload_n dX5_reason_81 rfl ?_
            refine v_iconst dX5_reason_82 (in_lit (by decide)) ?_
            refine v_aload_n dX5_reason_83 rfl ?_
            refine v_getI dX5_reason_84 frX5_359_5 rfl rfl (L_313 hL).1 ?_
            refine v_aload_n dX5_reason_87 rfl ?_
            refine v_getI dX5_reason_88 frX5_362_5 rfl rfl (L_313 hL).1 ?_
            refine v_callV (d' := 1) (rest := []) [vI 1, vI (J2 313 47), vI (J2 313 48)] dX5_reason_91 vrX5_377_5 (L_313 hL).1 rfl rfl (one_I (one_I (one_I one_nil))) (Nat.le_of_ble_eq_true rfl) (Nat.le_of_ble_eq_true rfl) (Nat.le_of_ble_eq_true rfl) ?_
            obtain ⟨o6, K⟩ := K
            refine s_walks hL (1 : Int) (J2 313 47) (J2 313 48) o6 (fun J3 hp => ?_)
            have K := K J3 hp
            show V w 5 mX5_reason 94 [some (vR 313), some (vI known), some (vI i), some (vI what)] [] S J3 Q
            refine v_iload_n dX5_reason_94 rfl ?_
            refine v_iconst dX5_reason_95 (in_lit (by decide)) ?_
            refine v_aload_n dX5_reason_96 rfl ?_
            refine v_getI dX5_reason_97 frX5_374_5 rfl rfl (L_313 hL).1 ?_
            refine v_iconst dX5_reason_100 (in_lit (by decide)) ?_
            obtain ⟨o7, K⟩ := K
            refine v_isub dX5_reason_101 o7 ?_
            refine v_callS (d' := 0) (rest := []) [vI i, vI 0, vI ((J3 313 53) - 1)] dX5_reason_102 srX5_169 rfl (one_I (one_I (one_I one_nil))) (Nat.le_of_ble_eq_true rfl) (Nat.le_of_ble_eq_true rfl) (Nat.le_of_ble_eq_true rfl) ?_
            obtain ⟨K1, K2⟩ := K
            refine sX5_within hL i (0 : Int) ((J3 313 53) - 1)  (fun c6 => ?_) (fun c6 => ?_)
            · have K := K1 c6
              show V w 5 mX5_reason 105 [some (vR 313), some (vI known), some (vI i), some (vI what)] [vI 1] S J3 Q
              refine v_if_eq 121 dX5_reason_105 (by decide) (fun cQ => absurd cQ (by decide)) (fun _ => ?_)
              refine v_aload_n dX5_reason_108 rfl ?_
              refine v_getR dX5_reason_109 frX5_118_5 rfl (L_313 hL).1 (LR_313_54 hL) (Or.inl rfl) ?_
              refine v_iconst dX5_reason_112 (in_lit (by decide)) ?_
              refine v_iload_n dX5_reason_113 rfl ?_
              obtain ⟨o8, K⟩ := K
              refine v_imul dX5_reason_114 o8 ?_
              refine v_iload_n dX5_reason_115 rfl ?_
              obtain ⟨o9, K⟩ := K
              refine v_iadd dX5_reason_116 o9 ?_
              obtain ⟨o10, K⟩ := K
              obtain ⟨o11, K⟩ := K
              refine ld_347 dX5_reason_117 hL o10 o11 ?_
              refine v_goto 122 dX5_reason_118 (by decide) ?_
              exact v_iret dX5_reason_122 rfl rfl K
            · have K := K2 c6
              show V w 5 mX5_reason 105 [some (vR 313), some (vI known), some (vI i), some (vI what)] [vI 0] S J3 Q
              refine v_if_eq 121 dX5_reason_105 (by decide) (fun _ => ?_) (fun cQ => absurd cQ (by decide))
              refine v_iconst dX5_reason_121 (in_lit (by decide)) ?_
              exact v_iret dX5_reason_122 rfl rfl K
          · have K := K2 c5
            refine v_aload_n dX5_reason_73 rfl ?_
            refine v_getI dX5_reason_74 frX5_368_5 rfl rfl (L_313 hL).1 ?_
            refine v_iconst dX5_reason_77 (in_lit (by decide)) ?_
            obtain ⟨K1, K2⟩ := K
            refine v_icmp_ne 94 dX5_reason_78 (by decide) (fun c7 => ?_) (fun c7 => ?_)
            · have K := K2 c7
              refine v_iload_n dX5_reason_94 rfl ?_
              refine v_iconst dX5_reason_95 (in_lit (by decide)) ?_
              refine v_aload_n dX5_reason_96 rfl ?_
              refine v_getI dX5_reason_97 frX5_374_5 rfl rfl (L_313 hL).1 ?_
              refine v_iconst dX5_reason_100 (in_lit (by decide)) ?_
              obtain ⟨o12, K⟩ := K
              refine v_isub dX5_reason_101 o12 ?_
              refine v_callS (d' := 0) (rest := []) [vI i, vI 0, vI ((J2 313 53) - 1)] dX5_reason_102 srX5_169 rfl (one_I (one_I (one_I one_nil))) (Nat.le_of_ble_eq_true rfl) (Nat.le_of_ble_eq_true rfl) (Nat.le_of_ble_eq_true rfl) ?_
              obtain ⟨K1, K2⟩ := K
              refine sX5_within hL i (0 : Int) ((J2 313 53) - 1)  (fun c8 => ?_) (fun c8 => ?_)
              · have K := K1 c8
                show V w 5 mX5_reason 105 [some (vR 313), some (vI known), some (vI i), some (vI what)] [vI 1] S J2 Q
                refine v_if_eq 121 dX5_reason_105 (by decide) (fun cQ => absurd cQ (by decide)) (fun _ => ?_)
                refine v_aload_n dX5_reason_108 rfl ?_
                refine v_getR dX5_reason_109 frX5_118_5 rfl (L_313 hL).1 (LR_313_54 hL) (Or.inl rfl) ?_
                refine v_iconst dX5_reason_112 (in_lit (by decide)) ?_
                refine v_iload_n dX5_reason_113 rfl ?_
                obtain ⟨o13, K⟩ := K
                refine v_imul dX5_reason_114 o13 ?_
                refine v_iload_n dX5_reason_115 rfl ?_
                obtain ⟨o14, K⟩ := K
                refine v_iadd dX5_reason_116 o14 ?_
                obtain ⟨o15, K⟩ := K
                obtain ⟨o16, K⟩ := K
                refine ld_347 dX5_reason_117 hL o15 o16 ?_
                refine v_goto 122 dX5_reason_118 (by decide) ?_
                exact v_iret dX5_reason_122 rfl rfl K
              · have K := K2 c8
                show V w 5 mX5_reason 105 [some (vR 313), some (vI known), some (vI i), some (vI what)] [vI 0] S J2 Q
                refine v_if_eq 121 dX5_reason_105 (by decide) (fun _ => ?_) (fun cQ => absurd cQ (by decide))
                refine v_iconst dX5_reason_121 (in_lit (by decide)) ?_
                exact v_iret dX5_reason_122 rfl rfl K
            · have K := K1 c7
              refine v_aload_n dX5_reason_81 rfl ?_
              refine v_iconst dX5_reason_82 (in_lit (by decide)) ?_
              refine v_aload_n dX5_reason_83 rfl ?_
              refine v_getI dX5_reason_84 frX5_359_5 rfl rfl (L_313 hL).1 ?_
              refine v_aload_n dX5_reason_87 rfl ?_
              refine v_getI dX5_reason_88 frX5_362_5 rfl rfl (L_313 hL).1 ?_
              refine v_callV (d' := 1) (rest := []) [vI 1, vI (J2 313 47), vI (J2 313 48)] dX5_reason_91 vrX5_377_5 (L_313 hL).1 rfl rfl (one_I (one_I (one_I one_nil))) (Nat.le_of_ble_eq_true rfl) (Nat.le_of_ble_eq_true rfl) (Nat.le_of_ble_eq_true rfl) ?_
              obtain ⟨o17, K⟩ := K
              refine s_walks hL (1 : Int) (J2 313 47) (J2 313 48) o17 (fun J4 hp => ?_)
              have K := K J4 hp
              show V w 5 mX5_reason 94 [some (vR 313), some (vI known), some (vI i), some (vI what)] [] S J4 Q
              refine v_iload_n dX5_reason_94 rfl ?_
              refine v_iconst dX5_reason_95 (in_lit (by decide)) ?_
              refine v_aload_n dX5_reason_96 rfl ?_
              refine v_getI dX5_reason_97 frX5_374_5 rfl rfl (L_313 hL).1 ?_
              refine v_iconst dX5_reason_100 (in_lit (by decide)) ?_
              obtain ⟨o18, K⟩ := K
              refine v_isub dX5_reason_101 o18 ?_
              refine v_callS (d' := 0) (rest := []) [vI i, vI 0, vI ((J4 313 53) - 1)] dX5_reason_102 srX5_169 rfl (one_I (one_I (one_I one_nil))) (Nat.le_of_ble_eq_true rfl) (Nat.le_of_ble_eq_true rfl) (Nat.le_of_ble_eq_true rfl) ?_
              obtain ⟨K1, K2⟩ := K
              refine sX5_within hL i (0 : Int) ((J4 313 53) - 1)  (fun c9 => ?_) (fun c9 => ?_)
              · have K := K1 c9
                show V w 5 mX5_reason 105 [some (vR 313), some (vI known), some (vI i), some (vI what)] [vI 1] S J4 Q
                refine v_if_eq 121 dX5_reason_105 (by decide) (fun cQ => absurd cQ (by decide)) (fun _ => ?_)
                refine v_aload_n dX5_reason_108 rfl ?_
                refine v_getR dX5_reason_109 frX5_118_5 rfl (L_313 hL).1 (LR_313_54 hL) (Or.inl rfl) ?_
                refine v_iconst dX5_reason_112 (in_lit (by decide)) ?_
                refine v_iload_n dX5_reason_113 rfl ?_
                obtain ⟨o19, K⟩ := K
                refine v_imul dX5_reason_114 o19 ?_
                refine v_iload_n dX5_reason_115 rfl ?_
                obtain ⟨o20, K⟩ := K
                refine v_iadd dX5_reason_116 o20 ?_
                obtain ⟨o21, K⟩ := K
                obtain ⟨o22, K⟩ := K
                refine ld_347 dX5_reason_117 hL o21 o22 ?_
                refine v_goto 122 dX5_reason_118 (by decide) ?_
                exact v_iret dX5_reason_122 rfl rfl K
              · have K := K2 c9
                show V w 5 mX5_reason 105 [some (vR 313), some (vI known), some (vI i), some (vI what)] [vI 0] S J4 Q
                refine v_if_eq 121 dX5_reason_105 (by decide) (fun _ => ?_) (fun cQ => absurd cQ (by decide))
                refine v_iconst dX5_reason_121 (in_lit (by decide)) ?_
                exact v_iret dX5_reason_122 rfl rfl K
        · have K := K2 c4
          refine v_aload_n dX5_reason_45 rfl ?_
          refine v_getI dX5_reason_46 frX5_368_5 rfl rfl (L_313 hL).1 ?_
          show V w 5 mX5_reason 49 [some (vR 313), some (vI known), some (vI i), some (vI what)] [vI (J1 313 51)] S (up J1 313 53 0) Q
          obtain ⟨K1, K2⟩ := K
          refine v_if_ne 65 dX5_reason_49 (by decide) (fun c10 => ?_) (fun c10 => ?_)
          · have K := K2 c10
            refine v_aload_n dX5_reason_65 rfl ?_
            refine v_getI dX5_reason_66 frX5_365_5 rfl rfl (L_313 hL).1 ?_
            show V w 5 mX5_reason 69 [some (vR 313), some (vI known), some (vI i), some (vI what)] [vI (J1 313 49)] S (up J1 313 53 0) Q
            refine v_iconst dX5_reason_69 (in_lit (by decide)) ?_
            refine v_icmp_eq 81 dX5_reason_70 (by decide) (fun cQ => absurd cQ c4) (fun _ => ?_)
            refine v_aload_n dX5_reason_73 rfl ?_
            refine v_getI dX5_reason_74 frX5_368_5 rfl rfl (L_313 hL).1 ?_
            show V w 5 mX5_reason 77 [some (vR 313), some (vI known), some (vI i), some (vI what)] [vI (J1 313 51)] S (up J1 313 53 0) Q
            refine v_iconst dX5_reason_77 (in_lit (by decide)) ?_
            obtain ⟨K1, K2⟩ := K
            refine v_icmp_ne 94 dX5_reason_78 (by decide) (fun c11 => ?_) (fun c11 => ?_)
            · have K := K2 c11
              refine v_iload_n dX5_reason_94 rfl ?_
              refine v_iconst dX5_reason_95 (in_lit (by decide)) ?_
              refine v_aload_n dX5_reason_96 rfl ?_
              refine v_getI dX5_reason_97 frX5_374_5 rfl rfl (L_313 hL).1 ?_
              show V w 5 mX5_reason 100 [some (vR 313), some (vI known), some (vI i), some (vI what)] [vI 0, vI 0, vI i] S (up J1 313 53 0) Q
              refine v_iconst dX5_reason_100 (in_lit (by decide)) ?_
              refine v_isub dX5_reason_101 (in_lit (by decide)) ?_
              show V w 5 mX5_reason 102 [some (vR 313), some (vI known), some (vI i), some (vI what)] [vI (-1), vI 0, vI i] S (up J1 313 53 0) Q
              refine v_callS (d' := 0) (rest := []) [vI i, vI 0, vI (-1)] dX5_reason_102 srX5_169 rfl (one_I (one_I (one_I one_nil))) (Nat.le_of_ble_eq_true rfl) (Nat.le_of_ble_eq_true rfl) (Nat.le_of_ble_eq_true rfl) ?_
              obtain ⟨K1, K2⟩ := K
              refine sX5_within hL i (0 : Int) (-1 : Int)  (fun c12 => ?_) (fun c12 => ?_)
              · have K := K1 c12
                show V w 5 mX5_reason 105 [some (vR 313), some (vI known), some (vI i), some (vI what)] [vI 1] S (up J1 313 53 0) Q
                refine v_if_eq 121 dX5_reason_105 (by decide) (fun cQ => absurd cQ (by decide)) (fun _ => ?_)
                refine v_aload_n dX5_reason_108 rfl ?_
                refine v_getR dX5_reason_109 frX5_118_5 rfl (L_313 hL).1 (LR_313_54 hL) (Or.inl rfl) ?_
                refine v_iconst dX5_reason_112 (in_lit (by decide)) ?_
                refine v_iload_n dX5_reason_113 rfl ?_
                obtain ⟨o23, K⟩ := K
                refine v_imul dX5_reason_114 o23 ?_
                refine v_iload_n dX5_reason_115 rfl ?_
                obtain ⟨o24, K⟩ := K
                refine v_iadd dX5_reason_116 o24 ?_
                obtain ⟨o25, K⟩ := K
                obtain ⟨o26, K⟩ := K
                refine ld_347 dX5_reason_117 hL o25 o26 ?_
                show V w 5 mX5_reason 118 [some (vR 313), some (vI known), some (vI i), some (vI what)] [vI (J1 347 ((3 * i) + what).toNat)] S (up J1 313 53 0) Q
                refine v_goto 122 dX5_reason_118 (by decide) ?_
                exact v_iret dX5_reason_122 rfl rfl K
              · have K := K2 c12
                show V w 5 mX5_reason 105 [some (vR 313), some (vI known), some (vI i), some (vI what)] [vI 0] S (up J1 313 53 0) Q
                refine v_if_eq 121 dX5_reason_105 (by decide) (fun _ => ?_) (fun cQ => absurd cQ (by decide))
                refine v_iconst dX5_reason_121 (in_lit (by decide)) ?_
                exact v_iret dX5_reason_122 rfl rfl K
            · have K := K1 c11
              refine v_aload_n dX5_reason_81 rfl ?_
              refine v_iconst dX5_reason_82 (in_lit (by decide)) ?_
              refine v_aload_n dX5_reason_83 rfl ?_
              refine v_getI dX5_reason_84 frX5_359_5 rfl rfl (L_313 hL).1 ?_
              show V w 5 mX5_reason 87 [some (vR 313), some (vI known), some (vI i), some (vI what)] [vI (J1 313 47), vI 1, vR 313] S (up J1 313 53 0) Q
              refine v_aload_n dX5_reason_87 rfl ?_
              refine v_getI dX5_reason_88 frX5_362_5 rfl rfl (L_313 hL).1 ?_
              show V w 5 mX5_reason 91 [some (vR 313), some (vI known), some (vI i), some (vI what)] [vI (J1 313 48), vI (J1 313 47), vI 1, vR 313] S (up J1 313 53 0) Q
              refine v_callV (d' := 1) (rest := []) [vI 1, vI (J1 313 47), vI (J1 313 48)] dX5_reason_91 vrX5_377_5 (L_313 hL).1 rfl rfl (one_I (one_I (one_I one_nil))) (Nat.le_of_ble_eq_true rfl) (Nat.le_of_ble_eq_true rfl) (Nat.le_of_ble_eq_true rfl) ?_
              obtain ⟨o27, K⟩ := K
              refine s_walks hL (1 : Int) (J1 313 47) (J1 313 48) o27 (fun J5 hp => ?_)
              have K := K J5 hp
              show V w 5 mX5_reason 94 [some (vR 313), some (vI known), some (vI i), some (vI what)] [] S J5 Q
              refine v_iload_n dX5_reason_94 rfl ?_
              refine v_iconst dX5_reason_95 (in_lit (by decide)) ?_
              refine v_aload_n dX5_reason_96 rfl ?_
              refine v_getI dX5_reason_97 frX5_374_5 rfl rfl (L_313 hL).1 ?_
              refine v_iconst dX5_reason_100 (in_lit (by decide)) ?_
              obtain ⟨o28, K⟩ := K
              refine v_isub dX5_reason_101 o28 ?_
              refine v_callS (d' := 0) (rest := []) [vI i, vI 0, vI ((J5 313 53) - 1)] dX5_reason_102 srX5_169 rfl (one_I (one_I (one_I one_nil))) (Nat.le_of_ble_eq_true rfl) (Nat.le_of_ble_eq_true rfl) (Nat.le_of_ble_eq_true rfl) ?_
              obtain ⟨K1, K2⟩ := K
              refine sX5_within hL i (0 : Int) ((J5 313 53) - 1)  (fun c13 => ?_) (fun c13 => ?_)
              · have K := K1 c13
                show V w 5 mX5_reason 105 [some (vR 313), some (vI known), some (vI i), some (vI what)] [vI 1] S J5 Q
                refine v_if_eq 121 dX5_reason_105 (by decide) (fun cQ => absurd cQ (by decide)) (fun _ => ?_)
                refine v_aload_n dX5_reason_108 rfl ?_
                refine v_getR dX5_reason_109 frX5_118_5 rfl (L_313 hL).1 (LR_313_54 hL) (Or.inl rfl) ?_
                refine v_iconst dX5_reason_112 (in_lit (by decide)) ?_
                refine v_iload_n dX5_reason_113 rfl ?_
                obtain ⟨o29, K⟩ := K
                refine v_imul dX5_reason_114 o29 ?_
                refine v_iload_n dX5_reason_115 rfl ?_
                obtain ⟨o30, K⟩ := K
                refine v_iadd dX5_reason_116 o30 ?_
                obtain ⟨o31, K⟩ := K
                obtain ⟨o32, K⟩ := K
                refine ld_347 dX5_reason_117 hL o31 o32 ?_
                refine v_goto 122 dX5_reason_118 (by decide) ?_
                exact v_iret dX5_reason_122 rfl rfl K
              · have K := K2 c13
                show V w 5 mX5_reason 105 [some (vR 313), some (vI known), some (vI i), some (vI what)] [vI 0] S J5 Q
                refine v_if_eq 121 dX5_reason_105 (by decide) (fun _ => ?_) (fun cQ => absurd cQ (by decide))
                refine v_iconst dX5_reason_121 (in_lit (by decide)) ?_
                exact v_iret dX5_reason_122 rfl rfl K
          · have K := K1 c10
            refine v_aload_n dX5_reason_52 rfl ?_
            refine v_iconst dX5_reason_53 (in_lit (by decide)) ?_
            refine v_aload_n dX5_reason_54 rfl ?_
            refine v_getI dX5_reason_55 frX5_359_5 rfl rfl (L_313 hL).1 ?_
            show V w 5 mX5_reason 58 [some (vR 313), some (vI known), some (vI i), some (vI what)] [vI (J1 313 47), vI 0, vR 313] S (up J1 313 53 0) Q
            refine v_aload_n dX5_reason_58 rfl ?_
            refine v_getI dX5_reason_59 frX5_362_5 rfl rfl (L_313 hL).1 ?_
            show V w 5 mX5_reason 62 [some (vR 313), some (vI known), some (vI i), some (vI what)] [vI (J1 313 48), vI (J1 313 47), vI 0, vR 313] S (up J1 313 53 0) Q
            refine v_callV (d' := 1) (rest := []) [vI 0, vI (J1 313 47), vI (J1 313 48)] dX5_reason_62 vrX5_377_5 (L_313 hL).1 rfl rfl (one_I (one_I (one_I one_nil))) (Nat.le_of_ble_eq_true rfl) (Nat.le_of_ble_eq_true rfl) (Nat.le_of_ble_eq_true rfl) ?_
            obtain ⟨o33, K⟩ := K
            refine s_walks hL (0 : Int) (J1 313 47) (J1 313 48) o33 (fun J6 hp => ?_)
            have K := K J6 hp
            show V w 5 mX5_reason 65 [some (vR 313), some (vI known), some (vI i), some (vI what)] [] S J6 Q
            refine v_aload_n dX5_reason_65 rfl ?_
            refine v_getI dX5_reason_66 frX5_365_5 rfl rfl (L_313 hL).1 ?_
            refine v_iconst dX5_reason_69 (in_lit (by decide)) ?_
            obtain ⟨K1, K2⟩ := K
            refine v_icmp_eq 81 dX5_reason_70 (by decide) (fun c14 => ?_) (fun c14 => ?_)
            · have K := K1 c14
              refine v_aload_n dX5_reason_81 rfl ?_
              refine v_iconst dX5_reason_82 (in_lit (by decide)) ?_
              refine v_aload_n dX5_reason_83 rfl ?_
              refine v_getI dX5_reason_84 frX5_359_5 rfl rfl (L_313 hL).1 ?_
              refine v_aload_n dX5_reason_87 rfl ?_
              refine v_getI dX5_reason_88 frX5_362_5 rfl rfl (L_313 hL).1 ?_
              refine v_callV (d' := 1) (rest := []) [vI 1, vI (J6 313 47), vI (J6 313 48)] dX5_reason_91 vrX5_377_5 (L_313 hL).1 rfl rfl (one_I (one_I (one_I one_nil))) (Nat.le_of_ble_eq_true rfl) (Nat.le_of_ble_eq_true rfl) (Nat.le_of_ble_eq_true rfl) ?_
              obtain ⟨o34, K⟩ := K
              refine s_walks hL (1 : Int) (J6 313 47) (J6 313 48) o34 (fun J7 hp => ?_)
              have K := K J7 hp
              show V w 5 mX5_reason 94 [some (vR 313), some (vI known), some (vI i), some (vI what)] [] S J7 Q
              refine v_iload_n dX5_reason_94 rfl ?_
              refine v_iconst dX5_reason_95 (in_lit (by decide)) ?_
              refine v_aload_n dX5_reason_96 rfl ?_
              refine v_getI dX5_reason_97 frX5_374_5 rfl rfl (L_313 hL).1 ?_
              refine v_iconst dX5_reason_100 (in_lit (by decide)) ?_
              obtain ⟨o35, K⟩ := K
              refine v_isub dX5_reason_101 o35 ?_
              refine v_callS (d' := 0) (rest := []) [vI i, vI 0, vI ((J7 313 53) - 1)] dX5_reason_102 srX5_169 rfl (one_I (one_I (one_I one_nil))) (Nat.le_of_ble_eq_true rfl) (Nat.le_of_ble_eq_true rfl) (Nat.le_of_ble_eq_true rfl) ?_
              obtain ⟨K1, K2⟩ := K
              refine sX5_within hL i (0 : Int) ((J7 313 53) - 1)  (fun c15 => ?_) (fun c15 => ?_)
              · have K := K1 c15
                show V w 5 mX5_reason 105 [some (vR 313), some (vI known), some (vI i), some (vI what)] [vI 1] S J7 Q
                refine v_if_eq 121 dX5_reason_105 (by decide) (fun cQ => absurd cQ (by decide)) (fun _ => ?_)
                refine v_aload_n dX5_reason_108 rfl ?_
                refine v_getR dX5_reason_109 frX5_118_5 rfl (L_313 hL).1 (LR_313_54 hL) (Or.inl rfl) ?_
                refine v_iconst dX5_reason_112 (in_lit (by decide)) ?_
                refine v_iload_n dX5_reason_113 rfl ?_
                obtain ⟨o36, K⟩ := K
                refine v_imul dX5_reason_114 o36 ?_
                refine v_iload_n dX5_reason_115 rfl ?_
                obtain ⟨o37, K⟩ := K
                refine v_iadd dX5_reason_116 o37 ?_
                obtain ⟨o38, K⟩ := K
                obtain ⟨o39, K⟩ := K
                refine ld_347 dX5_reason_117 hL o38 o39 ?_
                refine v_goto 122 dX5_reason_118 (by decide) ?_
                exact v_iret dX5_reason_122 rfl rfl K
              · have K := K2 c15
                show V w 5 mX5_reason 105 [some (vR 313), some (vI known), some (vI i), some (vI what)] [vI 0] S J7 Q
                refine v_if_eq 121 dX5_reason_105 (by decide) (fun _ => ?_) (fun cQ => absurd cQ (by decide))
                refine v_iconst dX5_reason_121 (in_lit (by decide)) ?_
                exact v_iret dX5_reason_122 rfl rfl K
            · have K := K2 c14
              refine v_aload_n dX5_reason_73 rfl ?_
              refine v_getI dX5_reason_74 frX5_368_5 rfl rfl (L_313 hL).1 ?_
              refine v_iconst dX5_reason_77 (in_lit (by decide)) ?_
              obtain ⟨K1, K2⟩ := K
              refine v_icmp_ne 94 dX5_reason_78 (by decide) (fun c16 => ?_) (fun c16 => ?_)
              · have K := K2 c16
                refine v_iload_n dX5_reason_94 rfl ?_
                refine v_iconst dX5_reason_95 (in_lit (by decide)) ?_
                refine v_aload_n dX5_reason_96 rfl ?_
                refine v_getI dX5_reason_97 frX5_374_5 rfl rfl (L_313 hL).1 ?_
                refine v_iconst dX5_reason_100 (in_lit (by decide)) ?_
                obtain ⟨o40, K⟩ := K
                refine v_isub dX5_reason_101 o40 ?_
                refine v_callS (d' := 0) (rest := []) [vI i, vI 0, vI ((J6 313 53) - 1)] dX5_reason_102 srX5_169 rfl (one_I (one_I (one_I one_nil))) (Nat.le_of_ble_eq_true rfl) (Nat.le_of_ble_eq_true rfl) (Nat.le_of_ble_eq_true rfl) ?_
                obtain ⟨K1, K2⟩ := K
                refine sX5_within hL i (0 : Int) ((J6 313 53) - 1)  (fun c17 => ?_) (fun c17 => ?_)
                · have K := K1 c17
                  show V w 5 mX5_reason 105 [some (vR 313), some (vI known), some (vI i), some (vI what)] [vI 1] S J6 Q
                  refine v_if_eq 121 dX5_reason_105 (by decide) (fun cQ => absurd cQ (by decide)) (fun _ => ?_)
                  refine v_aload_n dX5_reason_108 rfl ?_
                  refine v_getR dX5_reason_109 frX5_118_5 rfl (L_313 hL).1 (LR_313_54 hL) (Or.inl rfl) ?_
                  refine v_iconst dX5_reason_112 (in_lit (by decide)) ?_
                  refine v_iload_n dX5_reason_113 rfl ?_
                  obtain ⟨o41, K⟩ := K
                  refine v_imul dX5_reason_114 o41 ?_
                  refine v_iload_n dX5_reason_115 rfl ?_
                  obtain ⟨o42, K⟩ := K
                  refine v_iadd dX5_reason_116 o42 ?_
                  obtain ⟨o43, K⟩ := K
                  obtain ⟨o44, K⟩ := K
                  refine ld_347 dX5_reason_117 hL o43 o44 ?_
                  refine v_goto 122 dX5_reason_118 (by decide) ?_
                  exact v_iret dX5_reason_122 rfl rfl K
                · have K := K2 c17
                  show V w 5 mX5_reason 105 [some (vR 313), some (vI known), some (vI i), some (vI what)] [vI 0] S J6 Q
                  refine v_if_eq 121 dX5_reason_105 (by decide) (fun _ => ?_) (fun cQ => absurd cQ (by decide))
                  refine v_iconst dX5_reason_121 (in_lit (by decide)) ?_
                  exact v_iret dX5_reason_122 rfl rfl K
              · have K := K1 c16
                refine v_aload_n dX5_reason_81 rfl ?_
                refine v_iconst dX5_reason_82 (in_lit (by decide)) ?_
                refine v_aload_n dX5_reason_83 rfl ?_
                refine v_getI dX5_reason_84 frX5_359_5 rfl rfl (L_313 hL).1 ?_
                refine v_aload_n dX5_reason_87 rfl ?_
                refine v_getI dX5_reason_88 frX5_362_5 rfl rfl (L_313 hL).1 ?_
                refine v_callV (d' := 1) (rest := []) [vI 1, vI (J6 313 47), vI (J6 313 48)] dX5_reason_91 vrX5_377_5 (L_313 hL).1 rfl rfl (one_I (one_I (one_I one_nil))) (Nat.le_of_ble_eq_true rfl) (Nat.le_of_ble_eq_true rfl) (Nat.le_of_ble_eq_true rfl) ?_
                obtain ⟨o45, K⟩ := K
                refine s_walks hL (1 : Int) (J6 313 47) (J6 313 48) o45 (fun J8 hp => ?_)
                have K := K J8 hp
                show V w 5 mX5_reason 94 [some (vR 313), some (vI known), some (vI i), some (vI what)] [] S J8 Q
                refine v_iload_n dX5_reason_94 rfl ?_
                refine v_iconst dX5_reason_95 (in_lit (by decide)) ?_
                refine v_aload_n dX5_reason_96 rfl ?_
                refine v_getI dX5_reason_97 frX5_374_5 rfl rfl (L_313 hL).1 ?_
                refine v_iconst dX5_reason_100 (in_lit (by decide)) ?_
                obtain ⟨o46, K⟩ := K
                refine v_isub dX5_reason_101 o46 ?_
                refine v_callS (d' := 0) (rest := []) [vI i, vI 0, vI ((J8 313 53) - 1)] dX5_reason_102 srX5_169 rfl (one_I (one_I (one_I one_nil))) (Nat.le_of_ble_eq_true rfl) (Nat.le_of_ble_eq_true rfl) (Nat.le_of_ble_eq_true rfl) ?_
                obtain ⟨K1, K2⟩ := K
                refine sX5_within hL i (0 : Int) ((J8 313 53) - 1)  (fun c18 => ?_) (fun c18 => ?_)
                · have K := K1 c18
                  show V w 5 mX5_reason 105 [some (vR 313), some (vI known), some (vI i), some (vI what)] [vI 1] S J8 Q
                  refine v_if_eq 121 dX5_reason_105 (by decide) (fun cQ => absurd cQ (by decide)) (fun _ => ?_)
                  refine v_aload_n dX5_reason_108 rfl ?_
                  refine v_getR dX5_reason_109 frX5_118_5 rfl (L_313 hL).1 (LR_313_54 hL) (Or.inl rfl) ?_
                  refine v_iconst dX5_reason_112 (in_lit (by decide)) ?_
                  refine v_iload_n dX5_reason_113 rfl ?_
                  obtain ⟨o47, K⟩ := K
                  refine v_imul dX5_reason_114 o47 ?_
                  refine v_iload_n dX5_reason_115 rfl ?_
                  obtain ⟨o48, K⟩ := K
                  refine v_iadd dX5_reason_116 o48 ?_
                  obtain ⟨o49, K⟩ := K
                  obtain ⟨o50, K⟩ := K
                  refine ld_347 dX5_reason_117 hL o49 o50 ?_
                  refine v_goto 122 dX5_reason_118 (by decide) ?_
                  exact v_iret dX5_reason_122 rfl rfl K
                · have K := K2 c18
                  show V w 5 mX5_reason 105 [some (vR 313), some (vI known), some (vI i), some (vI what)] [vI 0] S J8 Q
                  refine v_if_eq 121 dX5_reason_105 (by decide) (fun _ => ?_) (fun cQ => absurd cQ (by decide))
                  refine v_iconst dX5_reason_121 (in_lit (by decide)) ?_
                  exact v_iret dX5_reason_122 rfl rfl K
      · have K := K1 c3
        refine v_iconst dX5_reason_30 (in_lit (by decide)) ?_
        exact v_iret dX5_reason_31 rfl rfl K
    · have K := K2 c2
      show V w 5 mX5_reason 19 [some (vR 313), some (vI known), some (vI i), some (vI what)] [vI 0] S (up J 313 0 0) Q
      refine v_if_eq 30 dX5_reason_19 (by decide) (fun _ => ?_) (fun cQ => absurd cQ (by decide))
      refine v_iconst dX5_reason_30 (in_lit (by decide)) ?_
      exact v_iret dX5_reason_31 rfl rfl K
  · have K := K2 c1
    show V w 5 mX5_reason 10 [some (vR 313), some (vI known), some (vI i), some (vI what)] [vI 0] S (up J 313 0 0) Q
    refine v_if_eq 30 dX5_reason_10 (by decide) (fun _ => ?_) (fun cQ => absurd cQ (by decide))
    refine v_iconst dX5_reason_30 (in_lit (by decide)) ?_
    exact v_iret dX5_reason_31 rfl rfl K

theorem lkP_mp {J J' : Jm} (hT : MTab J) (hX : MTxt J) (h : Mp J J') (known : Int) (o : Nat) : lkP J' known o = lkP J known o := by
  funext u v
  unfold lkP
  exact propext (and_congr_right (fun _ => and_congr_right (fun _ => LK_mp hT hX h known o u v)))
theorem dstM_mp {J J' : Jm} (hT : MTab J) (hX : MTxt J) (h : Mp J J') (known : Int) : dstM J' known = dstM J known := by
  funext o a b
  unfold dstM
  rw [lkP_mp hT hX h]
theorem clashM_mp {J J' : Jm} (hT : MTab J) (hX : MTxt J) (h : Mp J J') (known : Int) : clashM J' known = clashM J known := by
  have e : ptM J' known = ptM J known := by
    funext o a b
    unfold ptM
    rw [propext (PT_mp h known o a b)]
  unfold clashM
  rw [dstM_mp hT hX h, e]
noncomputable def rClash (J : Jm) (known what : Int) : Int := if kno J known ∧ (0 ≤ what ∧ what ≤ 3) then (match clashM J known with
    | none => -1
    | some t => if what = 0 then (t.2.1 : Nat) else if what = 1 then (t.2.2.1 : Nat) else if what = 2 then (t.2.2.2.1 : Nat) else (t.1 : Nat)) else -1
theorem m_clash {w : Wd} {S : Sh} {J : Jm} {Q : Out → Sh → Jm → Prop} (hL : Lay S) (known what : Int) (hH : MHeld J) (hT : MTab J) (hX : MTxt J) (hS : MShr J) (K : ∀ J', Kp J J' → Q (.inl (some (vI (rClash J known what)))) S J') : V w 5 mX5_clash 0 (ent mX5_clash [vR 313, vI known, vI what]) [] S J Q := by
  have hm := (k0 J).mp
  have no : ¬ (kno J known ∧ (0 ≤ what ∧ what ≤ 3)) → Q (.inl (some (vI (-1)))) S (up J 313 0 0) := by
    intro q
    have := K _ (k0 J)
    unfold rClash at this
    rw [if_neg q] at this
    exact this
  refine gX5_clash_0 hL known what (br_i (fun h1 => br_i (fun h2 => ⟨hH.mp hm, hT.mp hm, hX.mp hm, hS.mp hm, fun J1 hp => ?_⟩) (fun h2 => no (fun q => h2 q.2))) (fun h1 => no (fun q => h1 q.1)))
  obtain ⟨kp, c1, -, -⟩ := hp
  have fin := K J1 ((k0 J).trans kp)
  unfold rClash at fin
  rw [if_pos ⟨h1, h2⟩] at fin
  rw [clashM_mp hT hX hm] at c1 ⊢
  revert c1 fin
  generalize clashM J known = st
  intro c1 fin
  cases st with
  | none => exact br_y rfl fin
  | some t =>
    obtain ⟨q1, q2, q3, q4, q5⟩ := c1
    rw [q1, q2, q3, q4]
    refine br_n (by show ¬ (1 : Int) = 0; decide) (br_i (fun h3 => ?_) (fun h3 => br_i (fun h4 => ?_) (fun h4 => br_i (fun h5 => ?_) (fun h5 => ?_))))
    · dsimp only at fin; rw [if_pos h3] at fin; exact fin
    · dsimp only at fin; rw [if_neg h3, if_pos h4] at fin; exact fin
    · dsimp only at fin; rw [if_neg h3, if_neg h4, if_pos h5] at fin; exact fin
    · dsimp only at fin; rw [if_neg h3, if_neg h4, if_neg h5] at fin; exact fin
/-- the links of the reason: sort, from, to -/
noncomputable def rsM (J : Jm) (known : Int) (t : ClT) : List (Nat × Nat × Nat) := (if t.2.2.2.1 = 1 ∨ t.2.2.2.2 = 0 then walkL (lkP J known 0) 0 t.2.2.1 t.2.1 else []) ++ (if t.2.2.2.1 = 1 ∨ t.2.2.2.2 = 1 then walkL (lkP J known 1) 1 t.2.2.1 t.2.1 else [])
noncomputable def rReason (J : Jm) (known i what : Int) : Int := if kno J known ∧ (0 ≤ what ∧ what ≤ 2) then (match clashM J known with
    | none => -1
    | some t => if 0 ≤ i ∧ i < ((rsM J known t).length : Nat) then (if what = 0 then (((rsM J known t).getD i.toNat (0, 0, 0)).1 : Nat) else if what = 1 then (((rsM J known t).getD i.toNat (0, 0, 0)).2.1 : Nat) else (((rsM J known t).getD i.toNat (0, 0, 0)).2.2 : Nat)) else -1) else -1
theorem wkS_len {E : Nat → Nat → Prop} {b : Nat} : ∀ (n now : Nat), (wkS E b n now).length ≤ n
  | 0, _ => Nat.le_refl _
  | n + 1, now => by
    rw [wkS]
    split
    · exact Nat.zero_le _
    · rw [List.length_cons]
      have := wkS_len (E := E) (b := b) n
      exact Nat.succ_le_succ (this _)
theorem walkL_len {E : Nat → Nat → Prop} {o b a n : Nat} (h : dO E b a = some n) : (walkL E o b a).length ≤ n := by
  unfold walkL
  rw [h]
  dsimp only
  rw [List.length_map]
  exact wkS_len _ _
theorem lkP_sym {J : Jm} {known : Int} {o : Nat} : ∀ u v, lkP J known o u v → lkP J known o v u := fun _ _ h => ⟨h.2.1, h.1, LK_sym h.2.2⟩
theorem m_reason {w : Wd} {S : Sh} {J : Jm} {Q : Out → Sh → Jm → Prop} (hL : Lay S) (known i what : Int) (hH : MHeld J) (hT : MTab J) (hX : MTxt J) (hS : MShr J) (K : ∀ J', Kp J J' → Q (.inl (some (vI (rReason J known i what)))) S J') : V w 5 mX5_reason 0 (ent mX5_reason [vR 313, vI known, vI i, vI what]) [] S J Q := by
  have hm := (k0 J).mp
  have no : ¬ (kno J known ∧ (0 ≤ what ∧ what ≤ 2)) → Q (.inl (some (vI (-1)))) S (up J 313 0 0) := by
    intro q
    have := K _ (k0 J)
    unfold rReason at this
    rw [if_neg q] at this
    exact this
  refine gX5_reason_0 hL known i what (br_i (fun h1 => br_i (fun h2 => ⟨hH.mp hm, hT.mp hm, hX.mp hm, hS.mp hm, fun J1 hp => ?_⟩) (fun h2 => no (fun q => h2 q.2))) (fun h1 => no (fun q => h1 q.1)))
  obtain ⟨kp, c1, hD, hlk⟩ := hp
  have fin := fun J' q => K J' (((k0 J).trans kp).trans q)
  unfold rReason at fin
  rw [if_pos ⟨h1, h2⟩] at fin
  rw [dstM_mp hT hX hm] at hD
  have hin := InsT.sclM (D := dstM J known) (P := ptM J known) hD 40 (by omega)
  have ec : clM (dstM J known) (ptM J known) 40 = clashM J known := rfl
  rw [ec] at hin
  rw [clashM_mp hT hX hm] at c1 ⊢
  revert c1 fin hin
  generalize clashM J known = st
  intro c1 fin hin
  cases st with
  | none => exact br_y rfl (fin J1 Kp.rfl')
  | some t =>
    dsimp only at fin
    obtain ⟨t1, t2, t3, t4⟩ := hin t rfl
    obtain ⟨sz, a, b, kind, sort⟩ := t
    dsimp only at t1 t2 t3 t4
    obtain ⟨q1, q2, q3, q4, q5⟩ := c1
    dsimp only at q1 q2 q3 q4 q5
    -- as the links were found
    have lkE_eq : ∀ (J2 : Jm), (∀ p, J2 341 p = J1 341 p) → ∀ o, o < 2 → lkE J2 o = lkP J known o := by
      intro J2 h2 o ho
      funext u v
      unfold lkE lkP
      apply propext
      refine and_congr_right (fun hu => and_congr_right (fun hv => ?_))
      rw [h2]
      exact ((hlk o u v ho hu hv).iff (LK_mp hT hX hm known o u v)).one
    have h01 : ∀ (J2 : Jm), (∀ p, J2 341 p = J1 341 p) → ∀ p : Nat, p < 3200 → J2 341 p = 0 ∨ J2 341 p = 1 := by
      intro J2 h2 p hp
      rw [h2]
      have := hlk (p / 1600) (p % 1600 / 40) (p % 40) (by omega) (by omega) (by omega)
      rw [show 1600 * (p / 1600) + 40 * (p % 1600 / 40) + p % 40 = p by omega] at this
      rcases this with ⟨q, -⟩ | ⟨q, -⟩
      · exact .inr q
      · exact .inl q
    have wok : ∀ (J2 : Jm) (o r n : Nat), o < 2 → (∀ p, J2 341 p = J1 341 p) → dstM J known o a b = some n → J2 313 53 = (r : Int) → r ≤ 40 → WkOk J2 (o : Int) (a : Int) (b : Int) := by
      intro J2 o r n ho h2 hd er hr
      have := hD o a b n ho t2 t3 hd
      refine ⟨by omega, by omega, by omega, h01 J2 h2, ?_, n, ?_, by omega, by omega⟩
      · rw [Int.toNat_natCast, lkE_eq J2 h2 o ho]
        exact lkP_sym
      · rw [Int.toNat_natCast, Int.toNat_natCast, Int.toNat_natCast, lkE_eq J2 h2 o ho, dO_sym lkP_sym]
        exact hd
    have wlen : ∀ (o n : Nat), o < 2 → dstM J known o a b = some n → (walkL (lkP J known o) o b a).length ≤ 39 := by
      intro o n ho hd
      have h3 := hD o a b n ho t2 t3 hd
      have h4 : dO (lkP J known o) b a = some n := by rw [dO_sym lkP_sym]; exact hd
      have := walkL_len (o := o) h4
      omega
    have wpost : ∀ (J2 J3 : Jm) (o : Nat) (L : List (Nat × Nat × Nat)), o < 2 → (∀ p, J2 341 p = J1 341 p) → PWk J2 (o : Int) (a : Int) (b : Int) J3 → RsAt J2 L → RsAt J3 (L ++ walkL (lkP J known o) o b a) := by
      intro J2 J3 o L ho h2 hp hr
      have := hp.2 L hr
      rw [Int.toNat_natCast, Int.toNat_natCast, Int.toNat_natCast, lkE_eq J2 h2 o ho] at this
      exact this
    have fr : ∀ (J2 J3 : Jm) (o : Int), PWk J2 o (a : Int) (b : Int) J3 → (∀ x k, x ≠ 345 → x ≠ 347 → ¬ (x = 313 ∧ k = 53) → J2 x k = J1 x k) → ∀ x k, x ≠ 345 → x ≠ 347 → ¬ (x = 313 ∧ k = 53) → J3 x k = J1 x k := fun J2 J3 o hp f2 x k z1 z2 z3 => by rw [hp.1 x k z1 z2 z3, f2 x k z1 z2 z3]
    have f0 : ∀ x k, x ≠ 345 → x ≠ 347 → ¬ (x = 313 ∧ k = 53) → (up J1 313 53 0) x k = J1 x k := fun x k z1 z2 z3 => up_ne z3
    have r0 : RsAt (up J1 313 53 0) [] := ⟨up_self, fun k hk => absurd hk (Nat.not_lt_zero _)⟩
    have kpf : ∀ J3 : Jm, (∀ x k, x ≠ 345 → x ≠ 347 → ¬ (x = 313 ∧ k = 53) → J3 x k = J1 x k) → Kp J1 J3 := fun J3 f3 x k q => f3 x k (fun e => by rw [e] at q; cases q) (fun e => by rw [e] at q; cases q) (fun e => by rw [e.1, e.2] at q; cases q)
    have tail : ∀ (J3 : Jm) (L : List (Nat × Nat × Nat)), (∀ x k, x ≠ 345 → x ≠ 347 → ¬ (x = 313 ∧ k = 53) → J3 x k = J1 x k) → RsAt J3 L → L.length ≤ 78 → L = rsM J known (sz, a, b, kind, sort) → (-2147483648 ≤ J3 313 53 - 1 ∧ J3 313 53 - 1 ≤ 2147483647) ∧ Br ((0 : Int) ≤ i ∧ i ≤ (J3 313 53 - 1)) ((-2147483648 ≤ 3 * i ∧ 3 * i ≤ 2147483647) ∧ (-2147483648 ≤ (3 * i) + what ∧ (3 * i) + what ≤ 2147483647) ∧ (0 ≤ (3 * i) + what) ∧ ((3 * i) + what < 240) ∧ Q (.inl (some (vI (J3 347 ((3 * i) + what).toNat)))) S J3) (Q (.inl (some (vI (-1)))) S J3) := by
      intro J3 L f3 r3 hl eL
      have fin3 := fin J3 (kpf J3 f3)
      rw [← eL] at fin3
      have e53 := r3.1
      refine ⟨by omega, br_i (fun c => ?_) (fun c => ?_)⟩
      · refine ⟨by omega, by omega, by omega, by omega, ?_⟩
        rw [if_pos (by omega)] at fin3
        obtain ⟨k, rfl⟩ : ∃ m : Nat, i = m := ⟨i.toNat, by omega⟩
        rw [Int.toNat_natCast] at fin3
        have hk := r3.2 k (by omega)
        have hw : what = 0 ∨ what = 1 ∨ what = 2 := by omega
        rcases hw with rfl | rfl | rfl
        · rw [show (3 * (k : Int) + 0).toNat = 3 * k by omega, hk.1]
          exact fin3
        · rw [show (3 * (k : Int) + 1).toNat = 3 * k + 1 by omega, hk.2.1]
          exact fin3
        · rw [show (3 * (k : Int) + 2).toNat = 3 * k + 2 by omega, hk.2.2]
          exact fin3
      · rw [if_neg (by omega)] at fin3
        exact fin3
    have hL0 : ∀ J3 : Jm, (∀ x k, x ≠ 345 → x ≠ 347 → ¬ (x = 313 ∧ k = 53) → J3 x k = J1 x k) → ∀ p, J3 341 p = J1 341 p := fun J3 f3 p => f3 _ _ (by decide) (by decide) (by omega)
    have hsc : ∀ J3 : Jm, (∀ x k, x ≠ 345 → x ≠ 347 → ¬ (x = 313 ∧ k = 53) → J3 x k = J1 x k) → J3 313 47 = (a : Int) ∧ J3 313 48 = (b : Int) ∧ J3 313 49 = (kind : Int) ∧ J3 313 51 = (sort : Int) := fun J3 f3 => by
      rw [f3 _ _ (by decide) (by decide) (by decide), f3 _ _ (by decide) (by decide) (by decide), f3 _ _ (by decide) (by decide) (by decide), f3 _ _ (by decide) (by decide) (by decide)]
      exact ⟨q2, q3, q4, q5⟩
    refine br_n (by show ¬ (1 : Int) = 0; decide) ?_
    rw [q2, q3, q4, q5]
    rcases t4 with ⟨rfl, rfl, ⟨n0, d0⟩, ⟨n1, d1⟩⟩ | ⟨rfl, hs, ⟨n0, d0⟩⟩
    · refine br_y rfl ⟨wok _ 0 0 n0 (by decide) (hL0 _ f0) d0 up_self (by decide), fun J2 hp2 => ?_⟩
      have f2 := fr _ _ _ hp2 f0
      have r2 := wpost _ _ 0 [] (by decide) (hL0 _ f0) hp2 r0
      rw [List.nil_append] at r2
      have z0 := wlen 0 n0 (by decide) d0
      have z1 := wlen 1 n1 (by decide) d1
      obtain ⟨s1, s2, s3, s4⟩ := hsc J2 f2
      rw [s1, s2, s3, s4]
      refine br_y rfl ⟨wok _ 1 _ n1 (by decide) (hL0 _ f2) d1 r2.1 (by omega), fun J3 hp3 => ?_⟩
      have r3 := wpost _ _ 1 _ (by decide) (hL0 _ f2) hp3 r2
      exact tail J3 _ (fr _ _ _ hp3 f2) r3 (by rw [List.length_append]; omega) rfl
    · refine br_n (by decide) ?_
      have hs2 : sort = 0 ∨ sort = 1 := by omega
      rcases hs2 with rfl | rfl
      · refine br_y rfl ⟨wok _ 0 0 n0 (by decide) (hL0 _ f0) d0 up_self (by decide), fun J2 hp2 => ?_⟩
        have f2 := fr _ _ _ hp2 f0
        have r2 := wpost _ _ 0 [] (by decide) (hL0 _ f0) hp2 r0
        rw [List.nil_append] at r2
        have z0 := wlen 0 n0 (by decide) d0
        obtain ⟨s1, s2, s3, s4⟩ := hsc J2 f2
        rw [s1, s2, s3, s4]
        refine br_n (by decide) (br_n (by decide) ?_)
        exact tail J2 _ f2 r2 (by omega) (by unfold rsM; dsimp only; rw [if_pos (.inr rfl), if_neg (by decide), List.append_nil])
      · refine br_n (by decide) (br_y rfl ⟨wok _ 1 0 n0 (by decide) (hL0 _ f0) d0 up_self (by decide), fun J2 hp2 => ?_⟩)
        have f2 := fr _ _ _ hp2 f0
        have r2 := wpost _ _ 1 [] (by decide) (hL0 _ f0) hp2 r0
        rw [List.nil_append] at r2
        have z0 := wlen 1 n0 (by decide) d0
        exact tail J2 _ f2 r2 (by omega) (by unfold rsM; dsimp only; rw [if_neg (by decide), if_pos (.inr rfl), List.nil_append])
