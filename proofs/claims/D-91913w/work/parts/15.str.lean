/-! strings: rules over their bytes; calls on a string -/
set_option maxRecDepth 100000
def StrB (i : Nat) (bs : List Int) : Prop := ∃ (own : String) (idx : Nat) (tx : String), strT[i]? = some (own, idx, tx, bs)
section StrRules
variable {w : Wd} {d d' : Nat} {f g : MI} {pc : Nat} {ls : List (Option AV)} {st rest : List AV} {S : Sh} {J : Jm} {Q : Out → Sh → Jm → Prop}
theorem vs_coder {i idx : Nat} {bs : List Int} (hd : decode f.code pc = .ok (.getfield idx, 3)) (hl : Cond.fieldLink f.cls idx "java/lang/String" "coder" "B" ∈ lw_all) (hs : StrB i bs) (K : V w d f (pc + 3) ls (vI 0 :: st) S J Q) : V w d f pc ls (vR (2 * i) :: st) S J Q := by
  obtain ⟨own, ix, tx, h⟩ := hs
  exact v_strCoder hd hl h K
theorem vs_value {i idx : Nat} {bs : List Int} (hd : decode f.code pc = .ok (.getfield idx, 3)) (hl : Cond.fieldLink f.cls idx "java/lang/String" "value" "[B" ∈ lw_all) (hs : StrB i bs) (K : V w d f (pc + 3) ls (vR (2 * i + 1) :: st) S J Q) : V w d f pc ls (vR (2 * i) :: st) S J Q := by
  obtain ⟨own, ix, tx, h⟩ := hs
  exact v_strValue hd hl h K
theorem vs_bald {i : Nat} {bs : List Int} {j : Int} (hd : decode f.code pc = .ok (.baload, 1)) (hs : StrB i bs) (h0 : 0 ≤ j) (hj : j < ((bs.length : Nat) : Int)) (K : V w d f (pc + 1) ls (vI (bs.getD j.toNat 0) :: st) S J Q) : V w d f pc ls (vI j :: vR (2 * i + 1) :: st) S J Q := by
  obtain ⟨own, ix, tx, h⟩ := hs
  exact v_baldS hd h h0 hj K
theorem vs_alen {i : Nat} {bs : List Int} (hd : decode f.code pc = .ok (.arraylength, 1)) (hs : StrB i bs) (K : V w d f (pc + 1) ls (vI ((bs.length : Nat) : Int) :: st) S J Q) : V w d f pc ls (vR (2 * i + 1) :: st) S J Q := by
  obtain ⟨own, ix, tx, h⟩ := hs
  exact v_alenS hd h K
theorem StrB.in {i : Nat} {bs : List Int} (hs : StrB i bs) (j : Nat) : 0 ≤ bs.getD j 0 ∧ bs.getD j 0 < 128 := by
  obtain ⟨own, ix, tx, h⟩ := hs
  exact str_in i _ h j
theorem StrB.len {i : Nat} {bs : List Int} (hs : StrB i bs) : bs.length < 16 := by
  obtain ⟨own, ix, tx, h⟩ := hs
  have hlen : ∀ q ∈ strT, q.2.2.2.length < 16 := by decide
  exact hlen _ (List.mem_of_getElem? h)
theorem v_callVS {n idx i : Nat} {bs : List Int} (as : List AV) (hd : decode f.code pc = .ok (.invokevirtual idx, 3)) (hr : VRef f.cls idx "java/lang/String" g n) (hs : StrB i bs) (ha : as.length = n) (h1v : ∀ v ∈ as, oneV v) (hal : as.length + 1 ≤ g.maxL) (hdd : d' + 1 ≤ d) (hrm : 2 * rest.length + g.maxL ≤ 53)
    (K : V w d' g 0 (ent g (vR (2 * i) :: as)) [] S J (CallQ w d f pc ls rest Q)) : V w d f pc ls (as.reverse ++ vR (2 * i) :: rest) S J Q := by
  intro p l e R s m args below meth c H locs cells slots la h1 h2 h3 h4 h5 h6 h7 h8 T hT X
  subst hT
  obtain ⟨hl, hinst, hsel, hc, hno, hpar⟩ := hr
  obtain ⟨own, ix, tx, hstr⟩ := hs
  have hts := hts_of (args := args) h1 h2.2.2.2.2.2.2.2.2
  obtain ⟨mk, methM, hnamed, hmethM, hstM, habM⟩ := Cond.instanceMethod_spec (hts _ hinst)
  obtain ⟨methM', cM, hmethM', -, -, -, -, -, -, -, -, hsigM⟩ := code_at h1 h2.2.2.2.2.2.2.2.2 hc hnamed
  cases hmethM.symm.trans hmethM'
  obtain ⟨c2, r2, m2, q1, q2, q3, q4, kP, hkP, hkPi⟩ := Cond.selects_spec (hts _ hsel)
  obtain ⟨cellB, hcell0, hvm, hfc, -⟩ := (va_O.moved h2.2.2.2.2.2.2.2.2.alike (h1.2.2.2.2.1 _ _ _ _ _ hstr).2.1).kept h4.old
  have hcell : T.heap[rho w (2 * i)]? = some cellB := by rw [rho_s0 hstr]; exact hcell0
  cases hfc.symm.trans q1
  cases (State.methodFound?_of_named hnamed hno).symm.trans q2
  cases hnamed.symm.trans q3
  have hselP : selectMethod e.platform s.vm cellB.cls mk = .method mk := by rw [Launch.admits_selectMethod X.admits]; exact q4
  have hobj : ∀ k, cellB.vm ≠ .statics k := fun k q => by rw [q] at hvm; cases hvm
  have hstk : (F0 m pc la ((as.reverse ++ vR (2 * i) :: rest).map (cv w))).stack = (as.map (cv w)).reverse ++ .ref (rho w (2 * i)) :: rest.map (cv w) := by simp [cv]
  have hdg : decode c.code (F0 m pc la ((as.reverse ++ vR (2 * i) :: rest).map (cv w))).pc = .ok (.invokevirtual idx, 3) := by rw [h2.2.1]; exact hd
  have key : ∃ vm₁, Stand p l e R s m args below meth c (T.setVm vm₁) locs cells slots ∧ ∀ target, (∀ acts, Steps p.tables e below (doInvoke e ((T.setVm vm₁).setTop (F0 m pc la (rest.map (cv w)))) acts mk ((vR (2 * i) :: as).map (cv w)).toArray).1 target) → Steps p.tables e below (T.setTop (F0 m pc la ((as.reverse ++ vR (2 * i) :: rest).map (cv w)))) target := by
    rcases hl with hl | ⟨host, hl⟩
    · obtain ⟨vm₁, X₁, hstep₁⟩ := X.invokevirtual h2.1 h2.2.2.2.2.2.1 (hts _ hl) hnamed hmethM hstM hkP hkPi hno (a := rho w (2 * i)) (cell := cellB) hcell hobj hselP hmethM habM hkP hkPi (g := F0 m pc la ((as.reverse ++ vR (2 * i) :: rest).map (cv w))) rfl (argsL := as.map (cv w)) (rest := rest.map (cv w)) (par_len hpar ha _ hsigM) hstk hdg
      exact ⟨vm₁, X₁, hstep₁⟩
    · obtain ⟨vm₁, X₁, hstep₁⟩ := X.invokevirtualNest h2.1 h2.2.2.2.2.2.1 (va_Nw.use rfl (va_Nw.warmM h2.2.2.2.2.2.2.2.2 (h1.1 _ hl))) hnamed hmethM hstM hkP hkPi hno (a := rho w (2 * i)) (cell := cellB) hcell hobj hselP hmethM habM hkP hkPi (g := F0 m pc la ((as.reverse ++ vR (2 * i) :: rest).map (cv w))) rfl (argsL := as.map (cv w)) (rest := rest.map (cv w)) (par_len hpar ha _ hsigM) hstk hdg
      exact ⟨vm₁, X₁, hstep₁⟩
  obtain ⟨vm₁, X₁, hstep₁⟩ := key
  obtain ⟨t, st, fin⟩ := call_core (acts := []) (T := T.setVm vm₁) (as := vR (2 * i) :: as) h1 h2 h3 h4 h5 h6 (fun v hv => h7 v (List.mem_append_right _ (List.mem_cons_of_mem _ hv))) (List.forall_mem_cons.mpr ⟨trivial, fun v hv => h7 v (List.mem_append_left _ (List.mem_reverse.mpr hv))⟩) h8 X₁ hd (X₁.named hnamed) hc (List.forall_mem_cons.mpr ⟨trivial, h1v⟩) hal hdd hrm K
  exact ⟨t, hstep₁ _ fun acts => by rw [doInvoke_state]; exact st, fin⟩
end StrRules
theorem vsX1_9 : VRef RX1 9 "java/lang/String" mJ3_indexOf 1 := ⟨Or.inl q828, q829, q830, cwJ3_indexOf, ⟨by decide, by decide⟩, by decide +kernel⟩
theorem vsX1_375 : VRef RX1 375 "java/lang/String" mJ3_charAt 1 := ⟨Or.inl q1434, q528, q529, cwJ3_charAt, ⟨by decide, by decide⟩, by decide +kernel⟩
theorem vsX8_46 : VRef RX8 46 "java/lang/String" mJ3_length 0 := ⟨Or.inl q517, q518, q519, cwJ3_length, ⟨by decide, by decide⟩, by decide +kernel⟩
theorem vsX8_52 : VRef RX8 52 "java/lang/String" mJ3_charAt 1 := ⟨Or.inl q527, q528, q529, cwJ3_charAt, ⟨by decide, by decide⟩, by decide +kernel⟩
theorem vsX5_206 : VRef RX5 206 "java/lang/String" mJ3_length 0 := ⟨Or.inl q1910, q518, q519, cwJ3_length, ⟨by decide, by decide⟩, by decide +kernel⟩
theorem vsX5_212 : VRef RX5 212 "java/lang/String" mJ3_charAt 1 := ⟨Or.inl q1911, q528, q529, cwJ3_charAt, ⟨by decide, by decide⟩, by decide +kernel⟩
theorem vsJ3_335 : VRef RJ3 335 "java/lang/String" mJ3_coder 0 := ⟨Or.inl q521, q522, q523, cwJ3_coder, ⟨by decide, by decide⟩, by decide +kernel⟩
theorem vsJ3_492 : VRef RJ3 492 "java/lang/String" mJ3_isLatin1 0 := ⟨Or.inl q531, q532, q533, cwJ3_isLatin1, ⟨by decide, by decide⟩, by decide +kernel⟩
theorem vsJ3_505 : VRef RJ3 505 "java/lang/String" mJ3_length 0 := ⟨Or.inl q836, q518, q519, cwJ3_length, ⟨by decide, by decide⟩, by decide +kernel⟩
theorem vsJ3_633 : VRef RJ3 633 "java/lang/String" mJ3_indexOf_2 2 := ⟨Or.inl q832, q833, q834, cwJ3_indexOf_2, ⟨by decide, by decide⟩, by decide +kernel⟩
