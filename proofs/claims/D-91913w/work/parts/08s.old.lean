/-! rules of V: old cells (strings, statics), casts, references into arrays, throwing and catching -/
set_option maxRecDepth 100000
theorem RelM.old {w : Wd} {S : Sh} {J : Jm} {H : Heap} (h : RelM w S J H) : ∀ a : Nat, a < w.s0.heap.size → ¬ oldA w a → H[a]? = w.s0.heap[a]? := fun a _ ha => h.2.2.2.2.2.2.2.2.2 a (Nat.lt_of_not_le ha)
theorem str_lt {i : Nat} {q : String × Nat × String × List Int} (h : strT[i]? = some q) : i < 22 := (List.getElem?_eq_some_iff.mp h).1
theorem rho_str {w : Wd} {i k : Nat} {q : String × Nat × String × List Int} (h : strT[i]? = some q) (hk : k < 2) : rho w (2 * i + k) = w.old (2 * i + k) := by
  have := str_lt h
  unfold rho
  rw [if_pos (by omega)]
theorem rho_s0 {w : Wd} {i : Nat} {q : String × Nat × String × List Int} (h : strT[i]? = some q) : rho w (2 * i) = w.old (2 * i) := rho_str (k := 0) h (by decide)
section Old
variable {w : Wd} {d d' : Nat} {f g : MI} {pc : Nat} {ls : List (Option AV)} {st rest : List AV} {S : Sh} {J : Jm} {Q : Out → Sh → Jm → Prop}
/-- the ints of the memory are ints -/
theorem v_in32 (K : (∀ a k, in32 (J a k)) → V w d f pc ls st S J Q) : V w d f pc ls st S J Q := by
  intro p l e R s m args below meth c H locs cells slots la h1 h2 h3 h4 h5 h6 h7 h8
  exact K h4.2.2.2.2.2.2.2.1 p l e R s m args below meth c H locs cells slots la h1 h2 h3 h4 h5 h6 h7 h8
/-- what is known of the memory's shape -/
theorem v_shape (K : (∀ a, S.n ≤ a → S.tg a = 0) → (∀ a k, S.n ≤ a → J a k = 0 ∧ S.rf a k = none) → S.n ≤ capN → S.sl ≤ capS → V w d f pc ls st S J Q) : V w d f pc ls st S J Q := by
  intro p l e R s m args below meth c H locs cells slots la h1 h2 h3 h4 h5 h6 h7 h8
  exact K (fun a ha => Classical.byContradiction fun q => absurd (h4.2.2.1 a q) (by omega)) h4.2.2.2.2.2.2.2.2.1 h3.2.2.1 h3.2.2.2.1 p l e R s m args below meth c H locs cells slots la h1 h2 h3 h4 h5 h6 h7 h8
theorem v_ldcS {i idx : Nat} {tx : String} {bs : List Int} (hd : decode f.code pc = .ok (.ldc idx, 2)) (hs : strT[i]? = some (f.cls, idx, tx, bs)) (K : V w d f (pc + 2) ls (vR (2 * i) :: st) S J Q) : V w d f pc ls st S J Q := by
  intro p l e R s m args below meth c H locs cells slots la h1 h2 h3 h4 h5 h6 h7 h8
  have hk := h1.2.2.2.2.1 _ _ _ _ _ hs
  have kk := K p l e R s m args below meth c H locs cells slots la h1 h2 h3 h4 h5 h6 (List.forall_mem_cons.mpr ⟨trivial, h7⟩) h8
  have e5 : (vR (2 * i) :: st).map (cv w) = .ref (w.old (2 * i)) :: st.map (cv w) := by
    rw [List.map_cons, ← rho_s0 hs]
    rfl
  rw [e5] at kk
  exact va_ldcS h2.1 h2.2.1 h2.2.2.2.2.2.1 (vk_R.warm h2.2.2.2.2.2.2.2.2 hk.1) hd kk
theorem strGet {i idx : Nat} {n dsc : String} {v : Value} (hE : va_OF "java/lang/String" n dsc v (w.old (2 * i)) (oldA w) w.s0 w.s0.heap) (hl : Cond.fieldLink f.cls idx "java/lang/String" n dsc ∈ lw_all) {p : Program} {l : Launch} {e : Env} {R : Room} {s : State} {m : MethodId} {args : Array Value} {below : List Frame} {meth : Method} {c : Code} {H : Heap} {locs : List Loc} {cells slots : Nat} {la : Array Slot} {rest : List Value} {QQ : State → Prop}
    (h1 : Wok w) (h2 : CxOk w f p s m meth c) (h4 : RelM w S J H) (hd : decode f.code pc = .ok (.getfield idx, 3))
    (K : W p l e R s m args below meth c H locs cells slots QQ (F0 m (pc + 3) la (v :: rest))) : W p l e R s m args below meth c H locs cells slots QQ (F0 m pc la (.ref (w.old (2 * i)) :: rest)) := by
  have hts := hts_of (args := args) h1 h2.2.2.2.2.2.2.2.2
  obtain ⟨cf, k, fi, f9, cell, a1, a2, a3, a4, a5, a6⟩ := (va_OF.moved h2.2.2.2.2.2.2.2.2.alike hE).kept h4.old
  exact W.getf h2.1 h2.2.1 h2.2.2.2.2.2.1 (hts _ hl) a1 a2 a3 a4 (v := v) a5 rfl rfl hd K
theorem v_strCoder {i idx : Nat} {q : String × Nat × String × List Int} (hd : decode f.code pc = .ok (.getfield idx, 3)) (hl : Cond.fieldLink f.cls idx "java/lang/String" "coder" "B" ∈ lw_all) (hs : strT[i]? = some q) (K : V w d f (pc + 3) ls (vI 0 :: st) S J Q) : V w d f pc ls (vR (2 * i) :: st) S J Q := by
  intro p l e R s m args below meth c H locs cells slots la h1 h2 h3 h4 h5 h6 h7 h8
  have hk := h1.2.2.2.2.1 i q.1 q.2.1 q.2.2.1 q.2.2.2 hs
  have kk := K p l e R s m args below meth c H locs cells slots la h1 h2 h3 h4 h5 h6 (List.forall_mem_cons.mpr ⟨in_0, fun u hu => h7 u (List.mem_cons_of_mem _ hu)⟩) h8
  have e5 : (vR (2 * i) :: st).map (cv w) = .ref (w.old (2 * i)) :: st.map (cv w) := by
    rw [List.map_cons, ← rho_s0 hs]
    rfl
  rw [e5]
  exact strGet hk.2.2.1 hl h1 h2 h4 hd kk
theorem v_strValue {i idx : Nat} {q : String × Nat × String × List Int} (hd : decode f.code pc = .ok (.getfield idx, 3)) (hl : Cond.fieldLink f.cls idx "java/lang/String" "value" "[B" ∈ lw_all) (hs : strT[i]? = some q) (K : V w d f (pc + 3) ls (vR (2 * i + 1) :: st) S J Q) : V w d f pc ls (vR (2 * i) :: st) S J Q := by
  intro p l e R s m args below meth c H locs cells slots la h1 h2 h3 h4 h5 h6 h7 h8
  have hk := h1.2.2.2.2.1 i q.1 q.2.1 q.2.2.1 q.2.2.2 hs
  have kk := K p l e R s m args below meth c H locs cells slots la h1 h2 h3 h4 h5 h6 (List.forall_mem_cons.mpr ⟨trivial, fun u hu => h7 u (List.mem_cons_of_mem _ hu)⟩) h8
  have e5 : (vR (2 * i) :: st).map (cv w) = .ref (w.old (2 * i)) :: st.map (cv w) := by
    rw [List.map_cons, ← rho_s0 hs]
    rfl
  have e6 : (vR (2 * i + 1) :: st).map (cv w) = .ref (w.old (2 * i + 1)) :: st.map (cv w) := by
    rw [List.map_cons, ← rho_str (k := 1) hs (by decide)]
    rfl
  rw [e5]
  rw [e6] at kk
  exact strGet hk.2.2.2.1 hl h1 h2 h4 hd kk
theorem str_in (i : Nat) (q : String × Nat × String × List Int) (h : strT[i]? = some q) (j : Nat) : 0 ≤ q.2.2.2.getD j 0 ∧ q.2.2.2.getD j 0 < 128 := by
  have h1 : ∀ q ∈ strT, ∀ b ∈ q.2.2.2, (0 : Int) ≤ b ∧ b < 128 := by decide
  rcases Nat.lt_or_ge j q.2.2.2.length with hj | hj
  · rw [List.getD_eq_getElem?_getD, List.getElem?_eq_getElem hj]
    exact h1 q (List.mem_of_getElem? h) _ (List.getElem_mem hj)
  · rw [List.getD_eq_getElem?_getD, List.getElem?_eq_none hj]
    exact ⟨Int.le_refl _, by decide⟩
theorem v_baldS {i : Nat} {j : Int} {q : String × Nat × String × List Int} (hd : decode f.code pc = .ok (.baload, 1)) (hs : strT[i]? = some q) (h0 : 0 ≤ j) (hj : j < q.2.2.2.length) (K : V w d f (pc + 1) ls (vI (q.2.2.2.getD j.toNat 0) :: st) S J Q) : V w d f pc ls (vI j :: vR (2 * i + 1) :: st) S J Q := by
  intro p l e R s m args below meth c H locs cells slots la h1 h2 h3 h4 h5 h6 h7 h8
  have hz : in32 j := h7 (vI j) List.mem_cons_self
  have hk := h1.2.2.2.2.1 i q.1 q.2.1 q.2.2.1 q.2.2.2 hs
  have hin := str_in i q hs j.toNat
  have kk := K p l e R s m args below meth c H locs cells slots la h1 h2 h3 h4 h5 h6 (List.forall_mem_cons.mpr ⟨(⟨by omega, by omega⟩ : in32 _), fun u hu => h7 u (List.mem_cons_of_mem _ (List.mem_cons_of_mem _ hu))⟩) h8
  obtain ⟨cell, q1, q2, q3, q4, -, q6, -⟩ := (va_T.moved h2.2.2.2.2.2.2.2.2.alike hk.2.2.2.2).kept h4.old
  have e6 : (vI j :: vR (2 * i + 1) :: st).map (cv w) = .int (Int32.ofInt j) :: .ref (w.old (2 * i + 1)) :: st.map (cv w) := by
    rw [List.map_cons, List.map_cons, ← rho_str (k := 1) hs (by decide)]
    rfl
  rw [e6]
  refine W.bald (v := .int (Int32.ofInt (q.2.2.2.getD j.toNat 0))) h2.1 h2.2.1 q1 q2 q3 ?_ ?_ rfl rfl hd kk
  · have := n_idx (n := q.2.2.2.length) hz h0 hj
    intro h9
    exact this (h9.imp id (fun h => by omega))
  · rw [n_clamp hz, q6 _ (by omega)]
theorem v_alenS {i : Nat} {q : String × Nat × String × List Int} (hd : decode f.code pc = .ok (.arraylength, 1)) (hs : strT[i]? = some q) (K : V w d f (pc + 1) ls (vI (q.2.2.2.length : Nat) :: st) S J Q) : V w d f pc ls (vR (2 * i + 1) :: st) S J Q := by
  intro p l e R s m args below meth c H locs cells slots la h1 h2 h3 h4 h5 h6 h7 h8
  have hk := h1.2.2.2.2.1 i q.1 q.2.1 q.2.2.1 q.2.2.2 hs
  have hlen : ∀ q ∈ strT, q.2.2.2.length < 16 := by decide
  have hl := hlen q (List.mem_of_getElem? hs)
  have kk := K p l e R s m args below meth c H locs cells slots la h1 h2 h3 h4 h5 h6 (List.forall_mem_cons.mpr ⟨(⟨by omega, by omega⟩ : in32 _), fun u hu => h7 u (List.mem_cons_of_mem _ hu)⟩) h8
  obtain ⟨cell, q1, q2, q3, q4, q5, q6, -⟩ := (va_T.moved h2.2.2.2.2.2.2.2.2.alike hk.2.2.2.2).kept h4.old
  have e6 : (vR (2 * i + 1) :: st).map (cv w) = .ref (w.old (2 * i + 1)) :: st.map (cv w) := by
    rw [List.map_cons, ← rho_str (k := 1) hs (by decide)]
    rfl
  rw [e6]
  exact W.alen h2.1 h2.2.1 q1 q2 (by rw [q5]; exact n_len _) rfl rfl hd kk
theorem v_getsZ {idx : Nat} (hd : decode f.code pc = .ok (.getstatic idx, 3)) (hl : Cond.fieldLink f.cls idx "java/lang/String" "COMPACT_STRINGS" "Z" ∈ lw_all) (K : V w d f (pc + 3) ls (vI 1 :: st) S J Q) : V w d f pc ls st S J Q := by
  intro p l e R s m args below meth c H locs cells slots la h1 h2 h3 h4 h5 h6 h7 h8
  have hts := hts_of (args := args) h1 h2.2.2.2.2.2.2.2.2
  have kk := K p l e R s m args below meth c H locs cells slots la h1 h2 h3 h4 h5 h6 (List.forall_mem_cons.mpr ⟨(⟨by decide, by decide⟩ : in32 1), h7⟩) h8
  obtain ⟨cf, kf, fi, f9, a, cell, a1, a2, a3, a4, a5, a6, a7, a8⟩ := va_Z.moved h2.2.2.2.2.2.2.2.2.alike h1.2.2.2.2.2.1
  exact W.gets h2.1 h2.2.1 h2.2.2.2.2.2.1 (hts _ hl) a1 a2 a3 a4 (by rw [h4.old a (Array.getElem?_eq_some_iff.mp a5).1 a8]; exact a5) (fun e => by rw [e] at a6; cases a6) a7 rfl hd kk
theorem v_getsR {idx i : Nat} {C n dsc : String} (hd : decode f.code pc = .ok (.getstatic idx, 3)) (hs : stcT[i]? = some (C, n, dsc)) (hl : Cond.fieldLink f.cls idx C n dsc ∈ lw_all) (K : ∀ r : Option Nat, V w d f (pc + 3) ls (vO r :: st) S J Q) : V w d f pc ls st S J Q := by
  intro p l e R s m args below meth c H locs cells slots la h1 h2 h3 h4 h5 h6 h7 h8
  have hts := hts_of (args := args) h1 h2.2.2.2.2.2.2.2.2
  have hi : i < 3 := (List.getElem?_eq_some_iff.mp hs).1
  have key : ∃ r : Option Nat, va_Z C n dsc (cv w (vO r)) (oldA w) w.s0 w.s0.heap := by
    rcases h1.2.2.2.2.2.2.1 i C n dsc hs with q | q
    · exact ⟨none, q⟩
    · refine ⟨some (50 + i), ?_⟩
      have : cv w (vO (some (50 + i))) = .ref (w.old (50 + i)) := by
        show Value.ref (rho w (50 + i)) = _
        unfold rho
        rw [if_pos (by omega)]
      rw [this]
      exact q
  obtain ⟨r, hr⟩ := key
  have kk := K r p l e R s m args below meth c H locs cells slots la h1 h2 h3 h4 h5 h6 (List.forall_mem_cons.mpr ⟨trivial, h7⟩) h8
  obtain ⟨cf, kf, fi, f9, a, cell, a1, a2, a3, a4, a5, a6, a7, a8⟩ := va_Z.moved h2.2.2.2.2.2.2.2.2.alike hr
  exact W.gets h2.1 h2.2.1 h2.2.2.2.2.2.1 (hts _ hl) a1 a2 a3 a4 (by rw [h4.old a (Array.getElem?_eq_some_iff.mp a5).1 a8]; exact a5) (fun e => by rw [e] at a6; cases a6) a7 rfl hd kk
end Old
