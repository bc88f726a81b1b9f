/-! rules of V: returns, fields, arrays -/
set_option maxRecDepth 100000
/-- what a class's table gives: its words, its types, its names apart -/
def ClGood (t : Nat) (C : String) (T : u_T) (N : Nat) : Prop := (∀ x ∈ u_ws C T N, x ∈ lw_all) ∧ (∀ k, k < N → parseFieldDescriptor (T k).2.2.1 = some (tyF t k)) ∧ (∀ a, a < N → ∀ b, b < N → a ≠ b → (T a).2.1 ≠ (T b).2.1 ∨ (weakF t a = true ∧ weakF t b = true)) ∧ arF t = none ∧ t ≠ 0 ∧ t < 40
theorem clg_1 : ClGood 1 RX1 TX1 28 := ⟨in_X1, tyX1_ok, (fun a ha b hb h => Or.inl (nmX1 a ha b hb h)), rfl, by decide, by decide⟩
theorem clg_2 : ClGood 2 RX2 TX2 2 := ⟨in_X2, tyX2_ok, (fun a ha b hb h => Or.inl (nmX2 a ha b hb h)), rfl, by decide, by decide⟩
theorem clg_3 : ClGood 3 RX3 TX3 23 := ⟨in_X3, tyX3_ok, (fun a ha b hb h => Or.inl (nmX3 a ha b hb h)), rfl, by decide, by decide⟩
theorem clg_4 : ClGood 4 RX4 TX4 6 := ⟨in_X4, tyX4_ok, (fun a ha b hb h => Or.inl (nmX4 a ha b hb h)), rfl, by decide, by decide⟩
theorem clg_5 : ClGood 5 RX5 TX5 76 := ⟨in_X5, tyX5_ok, (fun a ha b hb h => Or.inl (nmX5 a ha b hb h)), rfl, by decide, by decide⟩
theorem clg_7 : ClGood 7 RX7 TX7 3 := ⟨in_X7, tyX7_ok, (fun a ha b hb h => Or.inl (nmX7 a ha b hb h)), rfl, by decide, by decide⟩
theorem clg_9 : ClGood 9 RX9 TX9 7 := ⟨in_X9, tyX9_ok, (fun a ha b hb h => Or.inl (nmX9 a ha b hb h)), rfl, by decide, by decide⟩
theorem clg_10 : ClGood 10 RX10 TX10 8 := ⟨in_X10, tyX10_ok, (fun a ha b hb h => Or.inl (nmX10 a ha b hb h)), rfl, by decide, by decide⟩
theorem clg_11 : ClGood 11 RX11 TX11 7 := ⟨in_X11, tyX11_ok, (fun a ha b hb h => Or.inl (nmX11 a ha b hb h)), rfl, by decide, by decide⟩
theorem clg_13 : ClGood 13 RX13 TX13 2 := ⟨in_X13, tyX13_ok, (fun a ha b hb h => Or.inl (nmX13 a ha b hb h)), rfl, by decide, by decide⟩
theorem clg_14 : ClGood 14 RX14 TX14 1 := ⟨in_X14, tyX14_ok, (fun a ha b hb h => Or.inl (nmX14 a ha b hb h)), rfl, by decide, by decide⟩
theorem clg_15 : ClGood 15 RX15 TX15 4 := ⟨in_X15, tyX15_ok, (fun a ha b hb h => Or.inl (nmX15 a ha b hb h)), rfl, by decide, by decide⟩
theorem clg_16 : ClGood 16 RX16 TX16 6 := ⟨in_X16, tyX16_ok, (fun a ha b hb h => Or.inl (nmX16 a ha b hb h)), rfl, by decide, by decide⟩
theorem clg_17 : ClGood 17 RX17 TX17 4 := ⟨in_X17, tyX17_ok, (fun a ha b hb h => Or.inl (nmX17 a ha b hb h)), rfl, by decide, by decide⟩
theorem clg_19 : ClGood 19 RX19 TX19 5 := ⟨in_X19, tyX19_ok, (by decide +kernel), rfl, by decide, by decide⟩
theorem clg_20 : ClGood 20 RX20 TX20 9 := ⟨in_X20, tyX20_ok, (by decide +kernel), rfl, by decide, by decide⟩
theorem clg_21 : ClGood 21 RX21 TX21 5 := ⟨in_X21, tyX21_ok, (by decide +kernel), rfl, by decide, by decide⟩
theorem clg_22 : ClGood 22 RX22 TX22 8 := ⟨in_X22, tyX22_ok, (by decide +kernel), rfl, by decide, by decide⟩
theorem clg_23 : ClGood 23 RX23 TX23 5 := ⟨in_X23, tyX23_ok, (by decide +kernel), rfl, by decide, by decide⟩
theorem clg_24 : ClGood 24 RJ2 TJ2 3 := ⟨in_J2, tyJ2_ok, (fun a ha b hb h => Or.inl (nmJ2 a ha b hb h)), rfl, by decide, by decide⟩
theorem clg_25 : ClGood 25 RJ15 TJ15 6 := ⟨in_J15, tyJ15_ok, (fun a ha b hb h => Or.inl (nmJ15 a ha b hb h)), rfl, by decide, by decide⟩
theorem cl_good {t : Nat} {C : String} {T : u_T} {N : Nat} (h : clF t = some (C, T, N)) : ClGood t C T N := by
  unfold clF at h
  split at h
  · cases h; exact clg_1
  · cases h; exact clg_2
  · cases h; exact clg_3
  · cases h; exact clg_4
  · cases h; exact clg_5
  · cases h; exact clg_7
  · cases h; exact clg_9
  · cases h; exact clg_10
  · cases h; exact clg_11
  · cases h; exact clg_13
  · cases h; exact clg_14
  · cases h; exact clg_15
  · cases h; exact clg_16
  · cases h; exact clg_17
  · cases h; exact clg_19
  · cases h; exact clg_20
  · cases h; exact clg_21
  · cases h; exact clg_22
  · cases h; exact clg_23
  · cases h; exact clg_24
  · cases h; exact clg_25
  · cases h
theorem ar_le {t : Nat} {ty : FieldType} (h : arF t = some ty) : t ≠ 0 ∧ clF t = none := by
  unfold arF at h
  split at h <;> first | exact ⟨by decide, rfl⟩ | cases h
def up (J : Jm) (a k : Nat) (z : Int) : Jm := fun b j => if b = a ∧ j = k then z else J b j
def upR (S : Sh) (a k : Nat) (r : Option Nat) : Sh := (S.n, S.sl, S.tg, S.ln, fun b j => if b = a ∧ j = k then r else S.rf b j)
/-- a field by the pool entry idx of the class own: field k of the objects with tag t -/
def FRef (own : String) (idx t k : Nat) : Prop := ∃ (C : String) (T : u_T) (N : Nat), clF t = some (C, T, N) ∧ k < N ∧ (Cond.fieldLink own idx (T k).1 (T k).2.1 (T k).2.2.1 ∈ lw_all ∨ ∃ host, Cond.fieldLinkNest own idx (T k).1 (T k).2.1 (T k).2.2.1 host ∈ lw_tbl)
theorem hts_of {w : Wd} {s : State} {args : Array Value} (h1 : Wok w) (hW : w.s0.WarmedH s.vm) : ∀ x ∈ lw_all, x.before args s = true := fun x hx => word_at hW (lw_self x hx).2 (h1.1 x (lw_all_tbl hx))
theorem rho_ge {w : Wd} {a : Nat} (h : 64 ≤ a) : rho w a = w.B + (a - 64) := by unfold rho; rw [if_neg (by omega)]
theorem rho_ne {w : Wd} (h1 : Wok w) {a b : Nat} (ha : 64 ≤ a) (hb : b ≠ a) : rho w b ≠ rho w a := by
  rw [rho_ge ha]
  by_cases h : b < 64
  · unfold rho
    rw [if_pos h]
    have := h1.2.2.2.1 b h
    omega
  · rw [rho_ge (by omega)]
    omega
theorem tg_ge {w : Wd} {S : Sh} {J : Jm} {H : Heap} (hM : RelM w S J H) {a : Nat} (h0 : S.tg a ≠ 0) (h1 : S.tg a < 40) : 64 ≤ a := by
  by_cases h : a < 64
  · rcases hM.2.2.2.1 a h with q | q
    · omega
    · exact absurd q h0
  · omega
/-- one slot of one cell has been written: all other cells are as they were -/
theorem RelM.wrote {w : Wd} (h1 : Wok w) {S S' : Sh} {J J' : Jm} {H H' : Heap} (hM : RelM w S J H) {a : Nat} (ha : 64 ≤ a) (hn : a < S.n) (hs : H'.size = H.size) (hq : ∀ q, q ≠ rho w a → H'[q]? = H[q]?)
    (e1 : S'.n = S.n) (e3 : S'.tg = S.tg) (e4 : S'.ln = S.ln) (hJ : ∀ b j, b ≠ a → J' b j = J b j ∧ S'.rf b j = S.rf b j) (hJ3 : ∀ j, in32 (J' a j)) (ho : CellO w S' J' H' a) (hA : CellA w S' J' H' a) : RelM w S' J' H' := by
  obtain ⟨m1, m2, m3, m4, m5, m6, m7, m8, m9, m10⟩ := hM
  have hav : ∀ b j, b ≠ a → av S' J' b j = av S J b j := by
    intro b j hb
    unfold av
    rw [e3, (hJ b j hb).1, (hJ b j hb).2]
  refine ⟨by rw [hs, e1]; exact m1, by rw [e1]; exact m2, by rw [e3, e1]; exact m3, by rw [e3]; exact m4, by rw [e4]; exact m5, fun b => ?_, fun b => ?_, fun b j => ?_, fun b j hb => ?_, fun q hB => by rw [hq q (fun e => by rw [e, rho_ge ha] at hB; omega)]; exact m10 q hB⟩
  · by_cases hb : b = a
    · rw [hb]; exact ho
    · intro C T N hc
      rw [e3] at hc ⊢
      obtain ⟨cell, c1, c2, c3, c4⟩ := m6 b C T N hc
      refine ⟨cell, by rw [hq _ (rho_ne h1 ha hb)]; exact c1, c2, c3, fun k hk => ?_⟩
      obtain ⟨v, v1, v2⟩ := c4 k hk
      refine ⟨v, v1, ?_⟩
      rw [hav b k hb, (hJ b k hb).2]
      exact v2
  · by_cases hb : b = a
    · rw [hb]; exact hA
    · intro ty hc
      rw [e3] at hc ⊢
      obtain ⟨cell, c1, c2, c3, c4, c5, c6⟩ := m7 b ty hc
      refine ⟨cell, by rw [hq _ (rho_ne h1 ha hb)]; exact c1, c2, c3, by rw [e4]; exact c4, c5, fun k hk => ?_⟩
      rw [e4] at hk
      rw [hav b k hb]
      exact c6 k hk
  · by_cases hb : b = a
    · rw [hb]; exact hJ3 j
    · rw [(hJ b j hb).1]; exact m8 b j
  · rw [e1] at hb
    have hb' : b ≠ a := by omega
    rw [(hJ b j hb').1, (hJ b j hb').2]
    exact m9 b j hb
section RulesB
variable {w : Wd} {d : Nat} {f : MI} {pc : Nat} {ls : List (Option AV)} {st : List AV} {S : Sh} {J : Jm} {Q : Out → Sh → Jm → Prop}
theorem v_iret {z : Int} {ty : FieldType} (hd : decode f.code pc = .ok (.ireturn, 1)) (hr : f.ret = some ty) (hn : narrow ty (.int (Int32.ofInt z)) = .int (Int32.ofInt z)) (K : Q (.inl (some (vI z))) S J) : V w d f pc ls [vI z] S J Q := by
  intro p l e R s m args below meth c H locs cells slots la h1 h2 h3 h4 h5 h6 h7 h8
  have k := W.zret (R := R) (l := l) (e := e) (m := m) (args := args) (below := below) (cells := cells) (slots := slots) (locs := locs) (H := H) (s := s) (meth := meth) (Qc := fun _ _ o t => o = .returned (some (.int (Int32.ofInt z))) ∧ t.heap = H) (free := fun q => w.B ≤ q) h2.1 h2.2.1 (h2.2.2.2.1.trans hr) hn (fun t ht _ => ⟨rfl, ht⟩) h8 (ls := la) hd h2.2.2.2.2.1
  intro T hT X
  obtain ⟨t, a, o, b1, b2, ⟨rfl, hH⟩, L, ⟨_, b3, b4⟩, b5⟩ := k T hT X
  exact ⟨t, a, .inl (some (vI z)), S, J, L, cells, slots, b1, b2, b3, b4, b5, Nat.le_refl _, Nat.le_refl _, h3.2.2.1, h3.2.2.2.1, by rw [hH]; exact h4, h7 _ List.mem_cons_self, K⟩
theorem v_vret (hd : decode f.code pc = .ok (.return_, 1)) (hr : f.ret = none) (K : Q (.inl none) S J) : V w d f pc ls [] S J Q := by
  intro p l e R s m args below meth c H locs cells slots la h1 h2 h3 h4 h5 h6 h7 h8
  have k := W.vret (R := R) (l := l) (e := e) (m := m) (args := args) (below := below) (cells := cells) (slots := slots) (locs := locs) (H := H) (s := s) (meth := meth) (Qc := fun _ _ o t => o = .returned none ∧ t.heap = H) (free := fun q => w.B ≤ q) h2.1 h2.2.1 (h2.2.2.2.1.trans hr) (fun t ht _ => ⟨rfl, ht⟩) h8 (ls := la) hd h2.2.2.2.2.1
  intro T hT X
  obtain ⟨t, a, o, b1, b2, ⟨rfl, hH⟩, L, ⟨_, b3, b4⟩, b5⟩ := k T hT X
  exact ⟨t, a, .inl none, S, J, L, cells, slots, b1, b2, b3, b4, b5, Nat.le_refl _, Nat.le_refl _, h3.2.2.1, h3.2.2.2.1, by rw [hH]; exact h4, trivial, K⟩
theorem v_aret {x : Option Nat} {ty : FieldType} (hd : decode f.code pc = .ok (.areturn, 1)) (hr : f.ret = some ty) (hrt : kdT ty = 1) (K : Q (.inl (some (vO x))) S J) : V w d f pc ls [vO x] S J Q := by
  intro p l e R s m args below meth c H locs cells slots la h1 h2 h3 h4 h5 h6 h7 h8
  have hrt' : (∃ n, ty = .object n) ∨ ∃ t, ty = .array t := by
    unfold kdT at hrt
    split at hrt <;> first | exact Or.inl ⟨_, rfl⟩ | exact Or.inr ⟨_, rfl⟩ | cases hrt
  have hv : cv w (vO x) = .null ∨ ∃ a, cv w (vO x) = .ref a := by
    cases x with
    | none => exact Or.inl rfl
    | some a => exact Or.inr ⟨_, rfl⟩
  have k := W.aret (R := R) (l := l) (e := e) (m := m) (args := args) (below := below) (cells := cells) (slots := slots) (locs := locs) (H := H) (s := s) (meth := meth) (v := cv w (vO x)) (Qc := fun _ _ o t => o = .returned (some (cv w (vO x))) ∧ t.heap = H) (free := fun q => w.B ≤ q) h2.1 h2.2.1 (h2.2.2.2.1.trans hr) hrt' hv (fun t ht _ => ⟨rfl, ht⟩) h8 (ls := la) hd h2.2.2.2.2.1
  intro T hT X
  obtain ⟨t, a, o, b1, b2, ⟨rfl, hH⟩, L, ⟨_, b3, b4⟩, b5⟩ := k T hT X
  exact ⟨t, a, .inl (some (vO x)), S, J, L, cells, slots, b1, b2, b3, b4, b5, Nat.le_refl _, Nat.le_refl _, h3.2.2.1, h3.2.2.2.1, by rw [hH]; exact h4, trivial, K⟩
theorem get_W {t k idx a : Nat} (hF : FRef f.cls idx t k) (ht : S.tg a = t) (hwk : ¬ (weakF t k = true ∧ S.rf a k = none)) {p : Program} {l : Launch} {e : Env} {R : Room} {s : State} {m : MethodId} {args : Array Value} {below : List Frame} {meth : Method} {c : Code} {H : Heap} {locs : List Loc} {cells slots : Nat} {la : Array Slot} {rest : List Value} {QQ : State → Prop}
    (h1 : Wok w) (h2 : CxOk w f p s m meth c) (h4 : RelM w S J H) (hd : decode f.code pc = .ok (.getfield idx, 3))
    (K : W p l e R s m args below meth c H locs cells slots QQ (F0 m (pc + 3) la (cv w (av S J a k) :: rest))) : W p l e R s m args below meth c H locs cells slots QQ (F0 m pc la (.ref (rho w a) :: rest)) := by
  obtain ⟨C, T, N, hc, hk, hl⟩ := hF
  obtain ⟨g1, -⟩ := cl_good hc
  have hts := hts_of (args := args) h1 h2.2.2.2.2.2.2.2.2
  rw [← ht] at hc
  obtain ⟨cell, q1, q2, q3, q4⟩ := h4.2.2.2.2.2.1 a C T N hc
  obtain ⟨v, v1, v2⟩ := q4 k hk
  have hv : v = cv w (av S J a k) := by
    rcases v2 with q | q
    · exact absurd q (by rw [ht]; exact hwk)
    · exact q
  subst hv
  obtain ⟨hS, hfc, kC, hkC, hkind⟩ := u_Kn_moved h2.2.2.2.2.2.2.2.2.alike (h1.2.1 _ C T N hc)
  obtain ⟨cf, kf, fi, fd, hi, hsl⟩ := hS k hk
  have hst := (u_facts hfc hkC (u_lays hts g1 hk) hi).1
  rcases hl with hl | ⟨host, hl⟩
  · exact W.getf h2.1 h2.2.1 h2.2.2.2.2.2.1 (hts _ hl) hi hst q1 (by rw [q3]; exact fun h => by cases h) (by rw [hsl]; exact v1) rfl rfl hd K
  · exact va_Wgetf h2.1 h2.2.1 h2.2.2.2.2.2.1 (va_Nw.use rfl (va_Nw.warmF h2.2.2.2.2.2.2.2.2 (h1.1 _ hl))) hi hst q1 (by rw [q3]; exact fun h => by cases h) (by rw [hsl]; exact v1) rfl rfl hd K
theorem v_getI {t k idx a : Nat} (hd : decode f.code pc = .ok (.getfield idx, 3)) (hF : FRef f.cls idx t k) (hk : fk t k = 0) (hw : weakF t k = false) (ht : S.tg a = t) (K : V w d f (pc + 3) ls (vI (J a k) :: st) S J Q) : V w d f pc ls (vR a :: st) S J Q := by
  intro p l e R s m args below meth c H locs cells slots la h1 h2 h3 h4 h5 h6 h7 h8
  have kk := K p l e R s m args below meth c H locs cells slots la h1 h2 h3 h4 h5 h6 (List.forall_mem_cons.mpr ⟨h4.2.2.2.2.2.2.2.1 a k, fun u hu => h7 u (List.mem_cons_of_mem _ hu)⟩) h8
  refine get_W (S := S) (J := J) hF ht (fun q => by rw [hw] at q; cases q.1) h1 h2 h4 hd ?_
  have e : av S J a k = vI (J a k) := by unfold av; rw [ht, hk]; rfl
  rw [e]
  exact kk
theorem v_getR {t k idx a : Nat} {r : Option Nat} (hd : decode f.code pc = .ok (.getfield idx, 3)) (hF : FRef f.cls idx t k) (hk : fk t k = 1) (ht : S.tg a = t) (hr : S.rf a k = r) (hw : weakF t k = false ∨ r ≠ none) (K : V w d f (pc + 3) ls (vO r :: st) S J Q) : V w d f pc ls (vR a :: st) S J Q := by
  intro p l e R s m args below meth c H locs cells slots la h1 h2 h3 h4 h5 h6 h7 h8
  have kk := K p l e R s m args below meth c H locs cells slots la h1 h2 h3 h4 h5 h6 (List.forall_mem_cons.mpr ⟨trivial, fun u hu => h7 u (List.mem_cons_of_mem _ hu)⟩) h8
  refine get_W (S := S) (J := J) hF ht (fun q => by
    rcases hw with q' | q'
    · rw [q'] at q; cases q.1
    · exact q' (hr.symm.trans q.2)) h1 h2 h4 hd ?_
  have e : av S J a k = vO r := by unfold av; rw [ht, hk]; rw [hr]; rfl
  rw [e]
  exact kk
theorem put_W {t k idx a : Nat} {v : AV} (hF : FRef f.cls idx t k) (ht : S.tg a = t) {p : Program} {l : Launch} {e : Env} {R : Room} {s : State} {m : MethodId} {args : Array Value} {below : List Frame} {meth : Method} {c : Code} {H : Heap} {locs : List Loc} {cells slots : Nat} {la : Array Slot} {rest : List Value} {QQ : State → Prop}
    (h1 : Wok w) (h2 : CxOk w f p s m meth c) (h4 : RelM w S J H) (hd : decode f.code pc = .ok (.putfield idx, 3))
    (hfin : ∀ (C : String) (T : u_T) (N : Nat), clF t = some (C, T, N) → (T k).2.2.2 = false ∨ (f.1.name = "<init>" ∧ (T k).1 = f.cls ∧ Cond.fieldLink f.cls idx (T k).1 (T k).2.1 (T k).2.2.1 ∈ lw_all)) (hn : narrow (tyF t k) (cv w v) = cv w v) (hfit : fits (tyF t k) (cv w v) = true)
    {S' : Sh} {J' : Jm} (e1 : S'.n = S.n) (e3 : S'.tg = S.tg) (e4 : S'.ln = S.ln) (hJ : ∀ b j, ¬ (b = a ∧ j = k) → J' b j = J b j ∧ S'.rf b j = S.rf b j) (hJ3 : in32 (J' a k)) (hv : av S' J' a k = v) (hweak : weakF t k = true → ∀ j, weakF t j = true → j ≠ k → S.rf a j = none ∨ (S.rf a j = S'.rf a k))
    (K : ∀ (H' : Heap) (L : List Loc), RelM w S' J' H' → (∀ q ∈ L, w.B ≤ q.base) → W p l e R s m args below meth c H' (locs ++ L) cells slots QQ (F0 m (pc + 3) la rest)) : W p l e R s m args below meth c H locs cells slots QQ (F0 m pc la (cv w v :: .ref (rho w a) :: rest)) := by
  obtain ⟨C, T, N, hc, hk, hl⟩ := hF
  obtain ⟨g1, g2, g3, g4, g5, g6⟩ := cl_good hc
  have hts := hts_of (args := args) h1 h2.2.2.2.2.2.2.2.2
  have hfin := hfin C T N hc
  have hc0 := hc
  rw [← ht] at hc
  obtain ⟨cell, q1, q2, q3, q4⟩ := h4.2.2.2.2.2.1 a C T N hc
  obtain ⟨v0, v1, -⟩ := q4 k hk
  obtain ⟨hS, hfc, kC, hkC, hkind⟩ := u_Kn_moved h2.2.2.2.2.2.2.2.2.alike (h1.2.1 _ C T N hc)
  obtain ⟨cf, kf, fi, fd, hi, hsl⟩ := hS k hk
  have hst := (u_facts hfc hkC (u_lays hts g1 hk) hi).1
  have ha : 64 ≤ a := tg_ge h4 (by rw [ht]; exact g5) (by rw [ht]; exact g6)
  have han : a < S.n := h4.2.2.1 a (by rw [ht]; exact g5)
  have hlay := hts _ (g1 _ (u_in_lay hk))
  have hcont : ∀ H' : Heap, H'[rho w a]? = some (cell.setSlot fd.slot (cv w v)) → H'.size = H.size → (∀ q, q ≠ rho w a → H'[q]? = H[q]?) → W p l e R s m args below meth c H' (locs ++ [⟨rho w a, fd.slot⟩]) cells slots QQ (F0 m (pc + 3) la rest) := by
    intro H' z1 z2 z3
    refine K H' _ ?_ (fun q hq => by rw [List.mem_singleton.mp hq]; show w.B ≤ rho w a; rw [rho_ge ha]; omega)
    refine h4.wrote h1 ha han z2 z3 e1 e3 e4 (fun b j hb => hJ b j (fun q => hb q.1)) (fun j => ?_) ?_ ?_
    · by_cases hj : j = k
      · rw [hj]; exact hJ3
      · rw [(hJ a j (fun q => hj q.2)).1]; exact h4.2.2.2.2.2.2.2.1 a j
    · intro C2 T2 N2 hc2
      rw [e3] at hc2
      cases hc.symm.trans hc2
      refine ⟨_, z1, by rw [e3]; exact q2, q3, fun j hj => ?_⟩
      rw [e3]
      by_cases hjk : j = k
      · subst hjk
        refine ⟨cv w v, ?_, Or.inr (by rw [hv])⟩
        rw [hsl]
        exact Cell.slots_setSlot_self _ (k2_hasslot v1)
      · obtain ⟨vj, vj1, vj2⟩ := q4 j hj
        have hav : av S' J' a j = av S J a j := by
          unfold av
          rw [e3, (hJ a j (fun q => hjk q.2)).1, (hJ a j (fun q => hjk q.2)).2]
        by_cases hne : w.dI (S.tg a) k = w.dI (S.tg a) j
        · -- the same slot: both are weak
          have hw2 : weakF t k = true ∧ weakF t j = true := by
            rcases g3 k hk j hj (fun q => hjk q.symm) with q | q
            · exfalso
              obtain ⟨_, _, _, fj, hij, ej⟩ := hS j hj
              refine u_apart (u_lays hts g1 hk) (u_lays hts g1 hj) hi hij ?_ (by rw [hsl, ej]; exact hne)
              rw [(State.fieldFound?_type hi (g2 k hk)).1, (State.fieldFound?_type hij (g2 j hj)).1]
              exact q
            · exact q
          refine ⟨cv w v, ?_, ?_⟩
          · rw [← hne, hsl]
            exact Cell.slots_setSlot_self _ (k2_hasslot v1)
          · rw [(hJ a j (fun q => hjk q.2)).2, ht]
            rcases hweak hw2.1 j hw2.2 hjk with q | q
            · exact Or.inl ⟨hw2.2, q⟩
            · refine Or.inr ?_
              rw [hav, ← hv]
              have k1 : fk t k = 1 ∧ fk t j = 1 := by
                have hk9 : ∀ t j, weakF t j = true → fk t j = 1 := by
                  intro t j h
                  unfold weakF at h
                  split at h <;> first | rfl | cases h
                exact ⟨hk9 t k hw2.1, hk9 t j hw2.2⟩
              unfold av
              rw [e3, ht, k1.1, k1.2, q]
              rfl
        · refine ⟨vj, ?_, ?_⟩
          · rw [hsl, slot_ne _ _ hne]
            exact vj1
          · rw [hav, (hJ a j (fun q => hjk q.2)).2]
            exact vj2
    · intro ty hty
      rw [e3, ht, g4] at hty
      cases hty
  rcases hfin with hf0 | ⟨hf1, hf2, hf3⟩
  · unfold u_lay at hlay
    rw [if_neg (by rw [hf0]; decide)] at hlay
    have h6 := u_store hfc hkC hkind hlay hi (g2 k hk) hn hfit
    rcases hl with hl | ⟨host, hl⟩
    · exact W.putK h2.1 h2.2.1 (f := fd) ⟨h2.2.2.2.2.2.1, hts _ hl, ⟨_, _, _, hi⟩, hst⟩ (by rw [q2]; exact h6) q1 q3 (by rw [hsl]; exact k2_hasslot v1) rfl rfl hd hcont
    · exact va_WputK h2.1 h2.2.1 (f := fd) h2.2.2.2.2.2.1 (va_Nw.use rfl (va_Nw.warmF h2.2.2.2.2.2.2.2.2 (h1.1 _ hl))) hi hst (by rw [q2]; exact h6) q1 q3 (by rw [hsl]; exact k2_hasslot v1) rfl rfl hd hcont
  · by_cases hf0 : (T k).2.2.2 = true
    · unfold u_lay at hlay
      rw [if_pos hf0] at hlay
      have hcf : m.cls = cf := by
        obtain ⟨_, _, c', _, _, _, -, -, hf', -, -, -, hown2, -⟩ := Cond.laysFinal_spec hlay
        have e1 : c' = cf := by have := hi.symm.trans hf'; simp at this; exact this.1.symm
        rw [hf2] at hown2
        rw [← e1]; exact Option.some.inj (h2.2.2.2.2.2.1.symm.trans hown2)
      have h6 := u_fits hfc hkC hkind (Or.inr hlay) hi (g2 k hk) hn hfit
      exact W.putFinK h2.1 h2.2.1 h2.2.2.2.2.2.1 (hts _ hf3) hi hst hcf (h2.2.2.2.2.2.2.1.trans hf1) (by rw [q2]; exact h6) q1 q3 (by rw [hsl]; exact k2_hasslot v1) rfl rfl hd hcont
    · unfold u_lay at hlay
      rw [if_neg hf0] at hlay
      have h6 := u_store hfc hkC hkind hlay hi (g2 k hk) hn hfit
      exact W.putK h2.1 h2.2.1 (f := fd) ⟨h2.2.2.2.2.2.1, hts _ hf3, ⟨_, _, _, hi⟩, hst⟩ (by rw [q2]; exact h6) q1 q3 (by rw [hsl]; exact k2_hasslot v1) rfl rfl hd hcont
/-- a field may be written: it isn't final, or this is its class's own constructor -/
def PutOk (f : MI) (idx t k : Nat) : Prop := ∀ (C : String) (T : u_T) (N : Nat), clF t = some (C, T, N) → (T k).2.2.2 = false ∨ (f.1.name = "<init>" ∧ (T k).1 = f.cls ∧ Cond.fieldLink f.cls idx (T k).1 (T k).2.1 (T k).2.2.1 ∈ lw_all)
def zfit (ty : FieldType) (z : Int) : Prop := narrow ty (.int (Int32.ofInt z)) = .int (Int32.ofInt z) ∧ fits ty (.int (Int32.ofInt z)) = true
theorem zfit_int {z : Int} : zfit .int z := ⟨rfl, rfl⟩
theorem zfit_bool {z : Int} (h : z = 0 ∨ z = 1) : zfit .boolean z := by rcases h with rfl | rfl <;> exact ⟨by decide, by decide⟩
theorem v_putI {t k idx a : Nat} {z : Int} (hd : decode f.code pc = .ok (.putfield idx, 3)) (hF : FRef f.cls idx t k) (hp : PutOk f idx t k) (hk : fk t k = 0) (hw : weakF t k = false) (hz : zfit (tyF t k) z) (ht : S.tg a = t) (K : V w d f (pc + 3) ls st S (up J a k z) Q) : V w d f pc ls (vI z :: vR a :: st) S J Q := by
  intro p l e R s m args below meth c H locs cells slots la h1 h2 h3 h4 h5 h6 h7 h8
  have h0 : okV (vI z) := h7 _ List.mem_cons_self
  refine put_W (v := vI z) (S' := S) (J' := up J a k z) hF ht h1 h2 h4 hd hp hz.1 hz.2 rfl rfl rfl (fun b j h => ⟨by unfold up; rw [if_neg h], rfl⟩) (by unfold up; rw [if_pos ⟨rfl, rfl⟩]; exact h0) (by unfold av; rw [ht, hk]; show vI (up J a k z a k) = vI z; unfold up; rw [if_pos ⟨rfl, rfl⟩]) (fun q => by rw [hw] at q; cases q) (fun H' L hM hL => ?_)
  exact K p l e R s m args below meth c H' (locs ++ L) cells slots la h1 h2 h3 hM h5 h6 (fun u hu => h7 u (List.mem_cons_of_mem _ (List.mem_cons_of_mem _ hu))) (fun q hq => by rcases List.mem_append.mp hq with h | h; exact h8 q h; exact hL q h)
theorem v_putR {t k idx a : Nat} {r : Option Nat} (hd : decode f.code pc = .ok (.putfield idx, 3)) (hF : FRef f.cls idx t k) (hp : PutOk f idx t k) (hk : fk t k = 1) (ht : S.tg a = t) (hweak : weakF t k = true → ∀ j, weakF t j = true → j ≠ k → S.rf a j = none ∨ S.rf a j = r) (K : V w d f (pc + 3) ls st (upR S a k r) J Q) : V w d f pc ls (vO r :: vR a :: st) S J Q := by
  intro p l e R s m args below meth c H locs cells slots la h1 h2 h3 h4 h5 h6 h7 h8
  have hty : ∃ ty, tyF t k = ty ∧ ((∃ n, ty = .object n) ∨ ∃ u, ty = .array u) := by
    refine ⟨_, rfl, ?_⟩
    have hk' : kdT (tyF t k) = 1 := hk
    unfold kdT at hk'
    split at hk' <;> first | exact Or.inl ⟨_, by assumption⟩ | exact Or.inr ⟨_, by assumption⟩ | cases hk'
  obtain ⟨ty, ety, hty⟩ := hty
  have hnf : narrow (tyF t k) (cv w (vO r)) = cv w (vO r) ∧ fits (tyF t k) (cv w (vO r)) = true := by
    rw [ety]
    rcases hty with ⟨n, rfl⟩ | ⟨u, rfl⟩ <;> cases r <;> exact ⟨rfl, rfl⟩
  refine put_W (v := vO r) (S' := upR S a k r) (J' := J) hF ht h1 h2 h4 hd hp hnf.1 hnf.2 rfl rfl rfl (fun b j h => ⟨rfl, by show (if b = a ∧ j = k then r else S.rf b j) = _; rw [if_neg h]⟩) (h4.2.2.2.2.2.2.2.1 a k) (by unfold av; rw [show (upR S a k r).tg a = t from ht, hk]; show vO (if a = a ∧ k = k then r else S.rf a k) = vO r; rw [if_pos ⟨rfl, rfl⟩]) (fun q j hj hjk => by
    rcases hweak q j hj hjk with x | x
    · exact Or.inl x
    · refine Or.inr (x.trans ?_)
      show r = (if a = a ∧ k = k then r else S.rf a k)
      rw [if_pos ⟨rfl, rfl⟩]) (fun H' L hM hL => ?_)
  exact K p l e R s m args below meth c H' (locs ++ L) cells slots la h1 h2 h3 hM h5 h6 (fun u hu => h7 u (List.mem_cons_of_mem _ (List.mem_cons_of_mem _ hu))) (fun q hq => by rcases List.mem_append.mp hq with h | h; exact h8 q h; exact hL q h)
end RulesB
