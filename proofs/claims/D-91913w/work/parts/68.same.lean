/-! a field of a class above, called by the heir's name (ArrayList.modCount) -/
set_option maxRecDepth 100000
theorem same_found {s : State} {args : Array Value} {ref owner name desc : String} {c i : Nat} {k : Class} {f : Field} (h : (Cond.sameField ref owner name desc).before args s = true) (hi : s.fieldFound? owner name desc = some (c, k, i, f)) : s.fieldFound? ref name desc = some (c, k, i, f) := by
  cases e : s.fieldFound? ref name desc with
  | none =>
    unfold Cond.before at h
    simp only [Cond.holds, Cond.value, e] at h
    cases h
  | some x =>
    obtain ⟨c', k', i', f'⟩ := x
    have := Cond.sameField_spec e h
    rw [hi] at this
    exact this.symm
def FRefS (own : String) (idx t k : Nat) : Prop := ∃ (C : String) (T : u_T) (N : Nat), clF t = some (C, T, N) ∧ k < N ∧ ∃ ref, Cond.fieldLink own idx ref (T k).2.1 (T k).2.2.1 ∈ lw_all ∧ Cond.sameField ref (T k).1 (T k).2.1 (T k).2.2.1 ∈ lw_all
theorem frJ2_63_24 : FRefS RJ2 63 24 0 := ⟨_, _, _, rfl, by decide, _, q154, q155⟩
section SameRules
variable {w : Wd} {d : Nat} {f : MI} {pc : Nat} {ls : List (Option AV)} {st : List AV} {S : Sh} {J : Jm} {Q : Out → Sh → Jm → Prop}
theorem get_W2 {t k idx a : Nat} (hF : FRefS f.cls idx t k) (ht : S.tg a = t) (hwk : ¬ (weakF t k = true ∧ S.rf a k = none)) {p : Program} {l : Launch} {e : Env} {R : Room} {s : State} {m : MethodId} {args : Array Value} {below : List Frame} {meth : Method} {c : Code} {H : Heap} {locs : List Loc} {cells slots : Nat} {la : Array Slot} {rest : List Value} {QQ : State → Prop}
    (h1 : Wok w) (h2 : CxOk w f p s m meth c) (h4 : RelM w S J H) (hd : decode f.code pc = .ok (.getfield idx, 3))
    (K : W p l e R s m args below meth c H locs cells slots QQ (F0 m (pc + 3) la (cv w (av S J a k) :: rest))) : W p l e R s m args below meth c H locs cells slots QQ (F0 m pc la (.ref (rho w a) :: rest)) := by
  obtain ⟨C, T, N, hc, hk, hl⟩ := hF
  obtain ⟨g1, -⟩ := cl_good hc
  have hts := hts_of (args := args) h1 h2.2.2.2.2.2.2.2.2
  rw [← ht] at hc
  obtain ⟨cell, q1, q2, q3, q4⟩ := h4.2.2.2.2.2.1 a C T N hc
  obtain ⟨v, v1, v2⟩ := q4 k hk
  have hv : v = cv w (av S J a k) := by
    rcases v2 with q | q
    · exact absurd q (by rw [ht]; exact hwk)
    · exact q
  subst hv
  obtain ⟨hS, hfc, kC, hkC, hkind⟩ := u_Kn_moved h2.2.2.2.2.2.2.2.2.alike (h1.2.1 _ C T N hc)
  obtain ⟨cf, kf, fi, fd, hi, hsl⟩ := hS k hk
  have hst := (u_facts hfc hkC (u_lays hts g1 hk) hi).1
  obtain ⟨ref, hl1, hl2⟩ := hl
  have hi2 := same_found (hts _ hl2) hi
  exact W.getf h2.1 h2.2.1 h2.2.2.2.2.2.1 (hts _ hl1) hi2 hst q1 (by rw [q3]; exact fun h => by cases h) (by rw [hsl]; exact v1) rfl rfl hd K
theorem put_W2 {t k idx a : Nat} {v : AV} (hF : FRefS f.cls idx t k) (ht : S.tg a = t) {p : Program} {l : Launch} {e : Env} {R : Room} {s : State} {m : MethodId} {args : Array Value} {below : List Frame} {meth : Method} {c : Code} {H : Heap} {locs : List Loc} {cells slots : Nat} {la : Array Slot} {rest : List Value} {QQ : State → Prop}
    (h1 : Wok w) (h2 : CxOk w f p s m meth c) (h4 : RelM w S J H) (hd : decode f.code pc = .ok (.putfield idx, 3))
    (hfin : ∀ (C : String) (T : u_T) (N : Nat), clF t = some (C, T, N) → (T k).2.2.2 = false) (hn : narrow (tyF t k) (cv w v) = cv w v) (hfit : fits (tyF t k) (cv w v) = true)
    {S' : Sh} {J' : Jm} (e1 : S'.n = S.n) (e3 : S'.tg = S.tg) (e4 : S'.ln = S.ln) (hJ : ∀ b j, ¬ (b = a ∧ j = k) → J' b j = J b j ∧ S'.rf b j = S.rf b j) (hJ3 : in32 (J' a k)) (hv : av S' J' a k = v) (hweak : weakF t k = true → ∀ j, weakF t j = true → j ≠ k → S.rf a j = none ∨ (S.rf a j = S'.rf a k))
    (K : ∀ (H' : Heap) (L : List Loc), RelM w S' J' H' → (∀ q ∈ L, w.B ≤ q.base) → W p l e R s m args below meth c H' (locs ++ L) cells slots QQ (F0 m (pc + 3) la rest)) : W p l e R s m args below meth c H locs cells slots QQ (F0 m pc la (cv w v :: .ref (rho w a) :: rest)) := by
  obtain ⟨C, T, N, hc, hk, hl⟩ := hF
  obtain ⟨g1, g2, g3, g4, g5, g6⟩ := cl_good hc
  have hts := hts_of (args := args) h1 h2.2.2.2.2.2.2.2.2
  have hfin := hfin C T N hc
  have hc0 := hc
  rw [← ht] at hc
  obtain ⟨cell, q1, q2, q3, q4⟩ := h4.2.2.2.2.2.1 a C T N hc
  obtain ⟨v0, v1, -⟩ := q4 k hk
  obtain ⟨hS, hfc, kC, hkC, hkind⟩ := u_Kn_moved h2.2.2.2.2.2.2.2.2.alike (h1.2.1 _ C T N hc)
  obtain ⟨cf, kf, fi, fd, hi, hsl⟩ := hS k hk
  have hst := (u_facts hfc hkC (u_lays hts g1 hk) hi).1
  have ha : 64 ≤ a := tg_ge h4 (by rw [ht]; exact g5) (by rw [ht]; exact g6)
  have han : a < S.n := h4.2.2.1 a (by rw [ht]; exact g5)
  have hlay := hts _ (g1 _ (u_in_lay hk))
  have hcont : ∀ H' : Heap, H'[rho w a]? = some (cell.setSlot fd.slot (cv w v)) → H'.size = H.size → (∀ q, q ≠ rho w a → H'[q]? = H[q]?) → W p l e R s m args below meth c H' (locs ++ [⟨rho w a, fd.slot⟩]) cells slots QQ (F0 m (pc + 3) la rest) := by
    intro H' z1 z2 z3
    refine K H' _ ?_ (fun q hq => by rw [List.mem_singleton.mp hq]; show w.B ≤ rho w a; rw [rho_ge ha]; omega)
    refine h4.wrote h1 ha han z2 z3 e1 e3 e4 (fun b j hb => hJ b j (fun q => hb q.1)) (fun j => ?_) ?_ ?_
    · by_cases hj : j = k
      · rw [hj]; exact hJ3
      · rw [(hJ a j (fun q => hj q.2)).1]; exact h4.2.2.2.2.2.2.2.1 a j
    · intro C2 T2 N2 hc2
      rw [e3] at hc2
      cases hc.symm.trans hc2
      refine ⟨_, z1, by rw [e3]; exact q2, q3, fun j hj => ?_⟩
      rw [e3]
      by_cases hjk : j = k
      · subst hjk
        refine ⟨cv w v, ?_, Or.inr (by rw [hv])⟩
        rw [hsl]
        exact Cell.slots_setSlot_self _ (k2_hasslot v1)
      · obtain ⟨vj, vj1, vj2⟩ := q4 j hj
        have hav : av S' J' a j = av S J a j := by
          unfold av
          rw [e3, (hJ a j (fun q => hjk q.2)).1, (hJ a j (fun q => hjk q.2)).2]
        by_cases hne : w.dI (S.tg a) k = w.dI (S.tg a) j
        · -- the same slot: both are weak
          have hw2 : weakF t k = true ∧ weakF t j = true := by
            rcases g3 k hk j hj (fun q => hjk q.symm) with q | q
            · exfalso
              obtain ⟨_, _, _, fj, hij, ej⟩ := hS j hj
              refine u_apart (u_lays hts g1 hk) (u_lays hts g1 hj) hi hij ?_ (by rw [hsl, ej]; exact hne)
              rw [(State.fieldFound?_type hi (g2 k hk)).1, (State.fieldFound?_type hij (g2 j hj)).1]
              exact q
            · exact q
          refine ⟨cv w v, ?_, ?_⟩
          · rw [← hne, hsl]
            exact Cell.slots_setSlot_self _ (k2_hasslot v1)
          · rw [(hJ a j (fun q => hjk q.2)).2, ht]
            rcases hweak hw2.1 j hw2.2 hjk with q | q
            · exact Or.inl ⟨hw2.2, q⟩
            · refine Or.inr ?_
              rw [hav, ← hv]
              have k1 : fk t k = 1 ∧ fk t j = 1 := by
                have hk9 : ∀ t j, weakF t j = true → fk t j = 1 := by
                  intro t j h
                  unfold weakF at h
                  split at h <;> first | rfl | cases h
                exact ⟨hk9 t k hw2.1, hk9 t j hw2.2⟩
              unfold av
              rw [e3, ht, k1.1, k1.2, q]
              rfl
        · refine ⟨vj, ?_, ?_⟩
          · rw [hsl, slot_ne _ _ hne]
            exact vj1
          · rw [hav, (hJ a j (fun q => hjk q.2)).2]
            exact vj2
    · intro ty hty
      rw [e3, ht, g4] at hty
      cases hty
  have hf0 := hfin
  obtain ⟨ref, hl1, hl2⟩ := hl
  have hi2 := same_found (hts _ hl2) hi
  unfold u_lay at hlay
  rw [if_neg (by rw [hf0]; decide)] at hlay
  have h6 := u_store hfc hkC hkind hlay hi (g2 k hk) hn hfit
  exact W.putK h2.1 h2.2.1 (f := fd) ⟨h2.2.2.2.2.2.1, hts _ hl1, ⟨_, _, _, hi2⟩, hst⟩ (by rw [q2]; exact h6) q1 q3 (by rw [hsl]; exact k2_hasslot v1) rfl rfl hd hcont
theorem v_getM {t k idx a : Nat} (hd : decode f.code pc = .ok (.getfield idx, 3)) (hF : FRefS f.cls idx t k) (hk : fk t k = 0) (hw : weakF t k = false) (ht : S.tg a = t) (K : V w d f (pc + 3) ls (vI (J a k) :: st) S J Q) : V w d f pc ls (vR a :: st) S J Q := by
  intro p l e R s m args below meth c H locs cells slots la h1 h2 h3 h4 h5 h6 h7 h8
  have kk := K p l e R s m args below meth c H locs cells slots la h1 h2 h3 h4 h5 h6 (List.forall_mem_cons.mpr ⟨h4.2.2.2.2.2.2.2.1 a k, fun u hu => h7 u (List.mem_cons_of_mem _ hu)⟩) h8
  refine get_W2 (S := S) (J := J) hF ht (fun q => by rw [hw] at q; cases q.1) h1 h2 h4 hd ?_
  have e : av S J a k = vI (J a k) := by unfold av; rw [ht, hk]; rfl
  rw [e]
  exact kk
theorem v_putM {t k idx a : Nat} {z : Int} (hd : decode f.code pc = .ok (.putfield idx, 3)) (hF : FRefS f.cls idx t k) (hp : ∀ (C : String) (T : u_T) (N : Nat), clF t = some (C, T, N) → (T k).2.2.2 = false) (hk : fk t k = 0) (hw : weakF t k = false) (hz : zfit (tyF t k) z) (ht : S.tg a = t) (K : V w d f (pc + 3) ls st S (up J a k z) Q) : V w d f pc ls (vI z :: vR a :: st) S J Q := by
  intro p l e R s m args below meth c H locs cells slots la h1 h2 h3 h4 h5 h6 h7 h8
  have h0 : okV (vI z) := h7 _ List.mem_cons_self
  refine put_W2 (v := vI z) (S' := S) (J' := up J a k z) hF ht h1 h2 h4 hd hp hz.1 hz.2 rfl rfl rfl (fun b j h => ⟨by unfold up; rw [if_neg h], rfl⟩) (by unfold up; rw [if_pos ⟨rfl, rfl⟩]; exact h0) (by unfold av; rw [ht, hk]; show vI (up J a k z a k) = vI z; unfold up; rw [if_pos ⟨rfl, rfl⟩]) (fun q => by rw [hw] at q; cases q) (fun H' L hM hL => ?_)
  exact K p l e R s m args below meth c H' (locs ++ L) cells slots la h1 h2 h3 hM h5 h6 (fun u hu => h7 u (List.mem_cons_of_mem _ (List.mem_cons_of_mem _ hu))) (fun q hq => by rcases List.mem_append.mp hq with h | h; exact h8 q h; exact hL q h)
end SameRules
