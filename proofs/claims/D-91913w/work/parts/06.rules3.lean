/-! rules of V: arrays -/
set_option maxRecDepth 100000
theorem ar_ty {t : Nat} {ty : FieldType} (h : arF t = some ty) (k : Nat) : tyF t k = ty := by
  unfold arF at h
  split at h <;> first | (cases h; rfl) | cases h
theorem n_clamp {i : Int} (h : in32 i) : (Int32.ofInt i).toNatClampNeg = i.toNat := by
  rw [Int32.toNatClampNeg, n_toInt h]
theorem n_idx {i : Int} {n : Nat} (h : in32 i) (h0 : 0 ≤ i) (h1 : i < n) : ¬ (Int32.ofInt i < 0 ∨ n ≤ (Int32.ofInt i).toNatClampNeg) := by
  rw [n_clamp h, n_0, n_lt h in_0]
  omega
theorem n_len (n : Nat) : n.toInt32 = Int32.ofInt (n : Int) := rfl
section RulesC
variable {w : Wd} {d : Nat} {f : MI} {pc : Nat} {ls : List (Option AV)} {st : List AV} {S : Sh} {J : Jm} {Q : Out → Sh → Jm → Prop}
theorem app_ok {locs L : List Loc} {B : Nat} (h8 : ∀ q ∈ locs, B ≤ q.base) (hL : ∀ q ∈ L, B ≤ q.base) : ∀ q ∈ locs ++ L, B ≤ q.base := fun q hq => by
  rcases List.mem_append.mp hq with h | h
  · exact h8 q h
  · exact hL q h
theorem v_iald {a : Nat} {i : Int} (hd : decode f.code pc = .ok (.iaload, 1)) (ht : arF (S.tg a) = some .int) (h0 : 0 ≤ i) (hi : i < S.ln a) (K : V w d f (pc + 1) ls (vI (J a i.toNat) :: st) S J Q) : V w d f pc ls (vI i :: vR a :: st) S J Q := by
  intro p l e R s m args below meth c H locs cells slots la h1 h2 h3 h4 h5 h6 h7 h8
  have hz : in32 i := h7 (vI i) List.mem_cons_self
  obtain ⟨cell, q1, q2, q3, q4, q5, q6⟩ := h4.2.2.2.2.2.2.1 a _ ht
  have kk := K p l e R s m args below meth c H locs cells slots la h1 h2 h3 h4 h5 h6 (List.forall_mem_cons.mpr ⟨h4.2.2.2.2.2.2.2.1 a i.toNat, fun u hu => h7 u (List.mem_cons_of_mem _ (List.mem_cons_of_mem _ hu))⟩) h8
  refine W.iald (v := .int (Int32.ofInt (J a i.toNat))) h2.1 h2.2.1 q1 (State.isArrayOf_alike h2.2.2.2.2.2.2.2.2.alike q2) q3 (by rw [q4]; exact n_idx hz h0 hi) ?_ rfl rfl hd kk
  rw [n_clamp hz, q6 _ (by omega)]
  unfold av fk
  rw [ar_ty ht]
  rfl
theorem v_bald {a : Nat} {i : Int} (hd : decode f.code pc = .ok (.baload, 1)) (ht : arF (S.tg a) = some .byte) (h0 : 0 ≤ i) (hi : i < S.ln a) (K : V w d f (pc + 1) ls (vI (J a i.toNat) :: st) S J Q) : V w d f pc ls (vI i :: vR a :: st) S J Q := by
  intro p l e R s m args below meth c H locs cells slots la h1 h2 h3 h4 h5 h6 h7 h8
  have hz : in32 i := h7 (vI i) List.mem_cons_self
  obtain ⟨cell, q1, q2, q3, q4, q5, q6⟩ := h4.2.2.2.2.2.2.1 a _ ht
  have kk := K p l e R s m args below meth c H locs cells slots la h1 h2 h3 h4 h5 h6 (List.forall_mem_cons.mpr ⟨h4.2.2.2.2.2.2.2.1 a i.toNat, fun u hu => h7 u (List.mem_cons_of_mem _ (List.mem_cons_of_mem _ hu))⟩) h8
  refine W.bald (v := .int (Int32.ofInt (J a i.toNat))) h2.1 h2.2.1 q1 (State.isArrayOf_alike h2.2.2.2.2.2.2.2.2.alike q2) q3 (by rw [q4]; exact n_idx hz h0 hi) ?_ rfl rfl hd kk
  rw [n_clamp hz, q6 _ (by omega)]
  unfold av fk
  rw [ar_ty ht]
  rfl
theorem v_zald {a : Nat} {i : Int} (hd : decode f.code pc = .ok (.baload, 1)) (ht : arF (S.tg a) = some .boolean) (h0 : 0 ≤ i) (hi : i < S.ln a) (K : V w d f (pc + 1) ls (vI (J a i.toNat) :: st) S J Q) : V w d f pc ls (vI i :: vR a :: st) S J Q := by
  intro p l e R s m args below meth c H locs cells slots la h1 h2 h3 h4 h5 h6 h7 h8
  have hz : in32 i := h7 (vI i) List.mem_cons_self
  obtain ⟨cell, q1, q2, q3, q4, q5, q6⟩ := h4.2.2.2.2.2.2.1 a _ ht
  have kk := K p l e R s m args below meth c H locs cells slots la h1 h2 h3 h4 h5 h6 (List.forall_mem_cons.mpr ⟨h4.2.2.2.2.2.2.2.1 a i.toNat, fun u hu => h7 u (List.mem_cons_of_mem _ (List.mem_cons_of_mem _ hu))⟩) h8
  refine W.zald (v := .int (Int32.ofInt (J a i.toNat))) h2.1 h2.2.1 q1 (State.isArrayOf_alike h2.2.2.2.2.2.2.2.2.alike q2) q3 (by rw [q4]; exact n_idx hz h0 hi) ?_ rfl rfl hd kk
  rw [n_clamp hz, q6 _ (by omega)]
  unfold av fk
  rw [ar_ty ht]
  rfl
theorem v_lald {a : Nat} {i : Int} (hd : decode f.code pc = .ok (.laload, 1)) (ht : arF (S.tg a) = some .long) (h0 : 0 ≤ i) (hi : i < S.ln a) (K : V w d f (pc + 1) ls (vL (J a i.toNat) :: st) S J Q) : V w d f pc ls (vI i :: vR a :: st) S J Q := by
  intro p l e R s m args below meth c H locs cells slots la h1 h2 h3 h4 h5 h6 h7 h8
  have hz : in32 i := h7 (vI i) List.mem_cons_self
  obtain ⟨cell, q1, q2, q3, q4, q5, q6⟩ := h4.2.2.2.2.2.2.1 a _ ht
  have kk := K p l e R s m args below meth c H locs cells slots la h1 h2 h3 h4 h5 h6 (List.forall_mem_cons.mpr ⟨h4.2.2.2.2.2.2.2.1 a i.toNat, fun u hu => h7 u (List.mem_cons_of_mem _ (List.mem_cons_of_mem _ hu))⟩) h8
  refine W.lald (v := .long (Int64.ofInt (J a i.toNat))) h2.1 h2.2.1 q1 (State.isArrayOf_alike h2.2.2.2.2.2.2.2.2.alike q2) q3 (by rw [q4]; exact n_idx hz h0 hi) ?_ rfl rfl hd kk
  rw [n_clamp hz, q6 _ (by omega)]
  unfold av fk
  rw [ar_ty ht]
  rfl
theorem v_aald {a : Nat} {i : Int} {ty : FieldType} {r : Option Nat} (hd : decode f.code pc = .ok (.aaload, 1)) (ht : arF (S.tg a) = some ty) (hty : kdT ty = 1) (h0 : 0 ≤ i) (hi : i < S.ln a) (hr : S.rf a i.toNat = r) (K : V w d f (pc + 1) ls (vO r :: st) S J Q) : V w d f pc ls (vI i :: vR a :: st) S J Q := by
  intro p l e R s m args below meth c H locs cells slots la h1 h2 h3 h4 h5 h6 h7 h8
  have hz : in32 i := h7 (vI i) List.mem_cons_self
  obtain ⟨cell, q1, q2, q3, q4, q5, q6⟩ := h4.2.2.2.2.2.2.1 a _ ht
  have kk := K p l e R s m args below meth c H locs cells slots la h1 h2 h3 h4 h5 h6 (List.forall_mem_cons.mpr ⟨trivial, fun u hu => h7 u (List.mem_cons_of_mem _ (List.mem_cons_of_mem _ hu))⟩) h8
  have hrf : ty.isReference = true := by
    unfold kdT at hty
    split at hty <;> first | rfl | cases hty
  refine W.aald (v := cv w (vO r)) h2.1 h2.2.1 q1 (State.isArrayOf_alike h2.2.2.2.2.2.2.2.2.alike q2) hrf q3 (by rw [q4]; exact n_idx hz h0 hi) ?_ rfl rfl hd kk
  rw [n_clamp hz, q6 _ (by omega)]
  unfold av fk
  rw [ar_ty ht, hty, hr]
  rfl
theorem v_alen {a : Nat} {ty : FieldType} (hd : decode f.code pc = .ok (.arraylength, 1)) (ht : arF (S.tg a) = some ty) (K : V w d f (pc + 1) ls (vI (S.ln a) :: st) S J Q) : V w d f pc ls (vR a :: st) S J Q := by
  intro p l e R s m args below meth c H locs cells slots la h1 h2 h3 h4 h5 h6 h7 h8
  obtain ⟨cell, q1, q2, q3, q4, q5, q6⟩ := h4.2.2.2.2.2.2.1 a _ ht
  have hb : S.ln a < 2147483648 := h4.2.2.2.2.1 a
  have kk := K p l e R s m args below meth c H locs cells slots la h1 h2 h3 h4 h5 h6 (List.forall_mem_cons.mpr ⟨(⟨by omega, by omega⟩ : in32 (S.ln a)), fun u hu => h7 u (List.mem_cons_of_mem _ hu)⟩) h8
  exact W.alen h2.1 h2.2.1 q1 (State.isArrayOf_alike h2.2.2.2.2.2.2.2.2.alike q2) (by rw [q4]; exact n_len _) rfl rfl hd kk
/-- a slot of an array is written -/
theorem RelM.arr (h1 : Wok w) {H H' : Heap} (hM : RelM w S J H) {a i : Nat} {ty : FieldType} (ht : arF (S.tg a) = some ty) (h40 : S.tg a < 40) (hi : i < S.ln a) {cell : Cell} {v : AV} (q1 : H[rho w a]? = some cell) (q2 : w.s0.isArrayOf cell ty) (q3 : cell.vm ≠ .unknown) (q4 : cell.slots.size = S.ln a) (q5 : S.tg a < 40 → cell.cls = w.dC (S.tg a)) (q6 : ∀ j, j < S.ln a → cell.slots[j]? = some (cv w (av S J a j)))
    (z1 : H'[rho w a]? = some (cell.setSlot i (cv w v))) (z2 : H'.size = H.size) (z3 : ∀ q, q ≠ rho w a → H'[q]? = H[q]?)
    {S' : Sh} {J' : Jm} (e1 : S'.n = S.n) (e3 : S'.tg = S.tg) (e4 : S'.ln = S.ln) (hJ : ∀ b j, ¬ (b = a ∧ j = i) → J' b j = J b j ∧ S'.rf b j = S.rf b j) (hJ3 : in32 (J' a i)) (hv : av S' J' a i = v) : RelM w S' J' H' ∧ w.B ≤ rho w a := by
  obtain ⟨g0, g1⟩ := ar_le ht
  have ha : 64 ≤ a := tg_ge hM g0 h40
  have han : a < S.n := hM.2.2.1 a g0
  refine ⟨hM.wrote h1 ha han z2 z3 e1 e3 e4 (fun b j hb => hJ b j (fun q => hb q.1)) (fun j => ?_) ?_ ?_, by rw [rho_ge ha]; omega⟩
  · by_cases hj : j = i
    · rw [hj]; exact hJ3
    · rw [(hJ a j (fun q => hj q.2)).1]; exact hM.2.2.2.2.2.2.2.1 a j
  · intro C T N hc
    rw [e3, g1] at hc
    cases hc
  · intro ty2 hty
    rw [e3] at hty
    cases ht.symm.trans hty
    refine ⟨_, z1, ?_, q3, by rw [k2_slotsz, e4]; exact q4, by rw [e3]; exact q5, fun j hj => ?_⟩
    · exact q2
    · rw [e4] at hj
      by_cases hji : j = i
      · rw [hji, hv]
        exact Cell.slots_setSlot_self _ (by rw [q4]; exact hi)
      · rw [slot_ne _ _ (fun q => hji q.symm), q6 j hj]
        unfold av
        rw [e3, (hJ a j (fun q => hji q.2)).1, (hJ a j (fun q => hji q.2)).2]
theorem v_iast {a : Nat} {i z : Int} (hd : decode f.code pc = .ok (.iastore, 1)) (ht : arF (S.tg a) = some .int) (h40 : S.tg a < 40) (h0 : 0 ≤ i) (hi : i < S.ln a) (K : V w d f (pc + 1) ls st S (up J a i.toNat z) Q) : V w d f pc ls (vI z :: vI i :: vR a :: st) S J Q := by
  intro p l e R s m args below meth c H locs cells slots la h1 h2 h3 h4 h5 h6 h7 h8
  have hz0 : in32 z := h7 (vI z) List.mem_cons_self
  have hzi : in32 i := h7 (vI i) (List.mem_cons_of_mem _ List.mem_cons_self)
  obtain ⟨cell, q1, q2, q3, q4, q5, q6⟩ := h4.2.2.2.2.2.2.1 a _ ht
  refine W.iast (x := Int32.ofInt z) h2.1 h2.2.1 q1 (State.isArrayOf_alike h2.2.2.2.2.2.2.2.2.alike q2) q3 (by rw [q4]; exact n_idx hzi h0 hi) rfl rfl hd (fun H' z1 z2 z3 => ?_)
  · rw [n_clamp hzi] at z1 ⊢
    obtain ⟨hM, hB⟩ := h4.arr h1 ht h40 (i := i.toNat) (by omega) (v := vI z) q1 q2 q3 q4 q5 q6 z1 z2 z3 (S' := S) (J' := up J a i.toNat z) rfl rfl rfl (fun b j h => ⟨by unfold up; rw [if_neg h], rfl⟩) (by unfold up; rw [if_pos ⟨rfl, rfl⟩]; exact hz0) (by unfold av fk; rw [ar_ty ht]; show vI (up J a i.toNat z a i.toNat) = vI z; unfold up; rw [if_pos ⟨rfl, rfl⟩])
    exact K p l e R s m args below meth c H' _ cells slots la h1 h2 h3 hM h5 h6 (fun u hu => h7 u (List.mem_cons_of_mem _ (List.mem_cons_of_mem _ (List.mem_cons_of_mem _ hu)))) (app_ok h8 (fun q hq => by rw [List.mem_singleton.mp hq]; exact hB))
theorem v_bast {a : Nat} {i z : Int} (hd : decode f.code pc = .ok (.bastore, 1)) (ht : arF (S.tg a) = some .byte) (h40 : S.tg a < 40) (h0 : 0 ≤ i) (hi : i < S.ln a) (hz : zfit .byte z) (K : V w d f (pc + 1) ls st S (up J a i.toNat z) Q) : V w d f pc ls (vI z :: vI i :: vR a :: st) S J Q := by
  intro p l e R s m args below meth c H locs cells slots la h1 h2 h3 h4 h5 h6 h7 h8
  have hz0 : in32 z := h7 (vI z) List.mem_cons_self
  have hzi : in32 i := h7 (vI i) (List.mem_cons_of_mem _ List.mem_cons_self)
  obtain ⟨cell, q1, q2, q3, q4, q5, q6⟩ := h4.2.2.2.2.2.2.1 a _ ht
  refine W.bast (x := Int32.ofInt z) h2.1 h2.2.1 q1 (State.isArrayOf_alike h2.2.2.2.2.2.2.2.2.alike q2) q3 (by rw [q4]; exact n_idx hzi h0 hi) rfl rfl hd (fun H' z1 z2 z3 => ?_)
  · rw [n_clamp hzi] at z1 ⊢
    rw [hz.1] at z1
    obtain ⟨hM, hB⟩ := h4.arr h1 ht h40 (i := i.toNat) (by omega) (v := vI z) q1 q2 q3 q4 q5 q6 z1 z2 z3 (S' := S) (J' := up J a i.toNat z) rfl rfl rfl (fun b j h => ⟨by unfold up; rw [if_neg h], rfl⟩) (by unfold up; rw [if_pos ⟨rfl, rfl⟩]; exact hz0) (by unfold av fk; rw [ar_ty ht]; show vI (up J a i.toNat z a i.toNat) = vI z; unfold up; rw [if_pos ⟨rfl, rfl⟩])
    exact K p l e R s m args below meth c H' _ cells slots la h1 h2 h3 hM h5 h6 (fun u hu => h7 u (List.mem_cons_of_mem _ (List.mem_cons_of_mem _ (List.mem_cons_of_mem _ hu)))) (app_ok h8 (fun q hq => by rw [List.mem_singleton.mp hq]; exact hB))
theorem v_zast {a : Nat} {i z : Int} (hd : decode f.code pc = .ok (.bastore, 1)) (ht : arF (S.tg a) = some .boolean) (h40 : S.tg a < 40) (h0 : 0 ≤ i) (hi : i < S.ln a) (hz : zfit .boolean z) (K : V w d f (pc + 1) ls st S (up J a i.toNat z) Q) : V w d f pc ls (vI z :: vI i :: vR a :: st) S J Q := by
  intro p l e R s m args below meth c H locs cells slots la h1 h2 h3 h4 h5 h6 h7 h8
  have hz0 : in32 z := h7 (vI z) List.mem_cons_self
  have hzi : in32 i := h7 (vI i) (List.mem_cons_of_mem _ List.mem_cons_self)
  obtain ⟨cell, q1, q2, q3, q4, q5, q6⟩ := h4.2.2.2.2.2.2.1 a _ ht
  refine W.zast (x := Int32.ofInt z) h2.1 h2.2.1 q1 (State.isArrayOf_alike h2.2.2.2.2.2.2.2.2.alike q2) q3 (by rw [q4]; exact n_idx hzi h0 hi) rfl rfl hd (fun H' z1 z2 z3 => ?_)
  · rw [n_clamp hzi] at z1 ⊢
    rw [hz.1] at z1
    obtain ⟨hM, hB⟩ := h4.arr h1 ht h40 (i := i.toNat) (by omega) (v := vI z) q1 q2 q3 q4 q5 q6 z1 z2 z3 (S' := S) (J' := up J a i.toNat z) rfl rfl rfl (fun b j h => ⟨by unfold up; rw [if_neg h], rfl⟩) (by unfold up; rw [if_pos ⟨rfl, rfl⟩]; exact hz0) (by unfold av fk; rw [ar_ty ht]; show vI (up J a i.toNat z a i.toNat) = vI z; unfold up; rw [if_pos ⟨rfl, rfl⟩])
    exact K p l e R s m args below meth c H' _ cells slots la h1 h2 h3 hM h5 h6 (fun u hu => h7 u (List.mem_cons_of_mem _ (List.mem_cons_of_mem _ (List.mem_cons_of_mem _ hu)))) (app_ok h8 (fun q hq => by rw [List.mem_singleton.mp hq]; exact hB))
theorem v_last {a : Nat} {i z : Int} (hd : decode f.code pc = .ok (.lastore, 1)) (ht : arF (S.tg a) = some .long) (h40 : S.tg a < 40) (h0 : 0 ≤ i) (hi : i < S.ln a) (K : V w d f (pc + 1) ls st S (up J a i.toNat z) Q) : V w d f pc ls (vL z :: vI i :: vR a :: st) S J Q := by
  intro p l e R s m args below meth c H locs cells slots la h1 h2 h3 h4 h5 h6 h7 h8
  have hz0 : in32 z := h7 (vL z) List.mem_cons_self
  have hzi : in32 i := h7 (vI i) (List.mem_cons_of_mem _ List.mem_cons_self)
  obtain ⟨cell, q1, q2, q3, q4, q5, q6⟩ := h4.2.2.2.2.2.2.1 a _ ht
  refine W.last (x := Int64.ofInt z) h2.1 h2.2.1 q1 (State.isArrayOf_alike h2.2.2.2.2.2.2.2.2.alike q2) q3 (by rw [q4]; exact n_idx hzi h0 hi) rfl rfl hd (fun H' z1 z2 z3 => ?_)
  · rw [n_clamp hzi] at z1 ⊢
    obtain ⟨hM, hB⟩ := h4.arr h1 ht h40 (i := i.toNat) (by omega) (v := vL z) q1 q2 q3 q4 q5 q6 z1 z2 z3 (S' := S) (J' := up J a i.toNat z) rfl rfl rfl (fun b j h => ⟨by unfold up; rw [if_neg h], rfl⟩) (by unfold up; rw [if_pos ⟨rfl, rfl⟩]; exact hz0) (by unfold av fk; rw [ar_ty ht]; show vL (up J a i.toNat z a i.toNat) = vL z; unfold up; rw [if_pos ⟨rfl, rfl⟩])
    exact K p l e R s m args below meth c H' _ cells slots la h1 h2 h3 hM h5 h6 (fun u hu => h7 u (List.mem_cons_of_mem _ (List.mem_cons_of_mem _ (List.mem_cons_of_mem _ hu)))) (app_ok h8 (fun q hq => by rw [List.mem_singleton.mp hq]; exact hB))
theorem v_i2l {z : Int} (hd : decode f.code pc = .ok (.i2l, 1)) (K : V w d f (pc + 1) ls (vL z :: st) S J Q) : V w d f pc ls (vI z :: st) S J Q := by
  intro p l e R s m args below meth c H locs cells slots la h1 h2 h3 h4 h5 h6 h7 h8
  have hz : in32 z := h7 (vI z) List.mem_cons_self
  have kk := K p l e R s m args below meth c H locs cells slots la h1 h2 h3 h4 h5 h6 (List.forall_mem_cons.mpr ⟨hz, fun u hu => h7 u (List.mem_cons_of_mem _ hu)⟩) h8
  refine lv_i2l h2.1 h2.2.1 hd ?_ kk
  apply Int64.toInt_inj.mp
  rw [Int32.toInt_toInt64, n_toInt hz, Int64.toInt_ofInt_of_le (by have := hz.1; omega) (by have := hz.2; omega)]
end RulesC
