/-! rules of V: System.arraycopy, class objects -/
set_option maxRecDepth 100000
section Copy
variable {w : Wd} {d d' : Nat} {f g : MI} {pc : Nat} {ls : List (Option AV)} {st rest : List AV} {S : Sh} {J : Jm} {Q : Out → Sh → Jm → Prop}
theorem stretch_get (c : Cell) (at_ n i : Nat) (h : i < n) : (c.stretch at_ n)[i]? = some (c.slots.getD (at_ + i) .null) := by
  unfold Cell.stretch
  rw [List.getElem?_map, List.getElem?_range h]
  rfl
theorem stretch_len (c : Cell) (at_ n : Nat) : (c.stretch at_ n).length = n := by
  unfold Cell.stretch
  rw [List.length_map, List.length_range]
/-- the memory behind a copy -/
theorem RelM.copy (h1 : Wok w) {H H' : Heap} (hM : RelM w S J H) {a b sp dp n : Nat} {ty : FieldType} (hta : arF (S.tg a) = some ty) (htb : arF (S.tg b) = some ty) (h40 : S.tg b < 40) (hsa : sp + n ≤ S.ln a) (hsb : dp + n ≤ S.ln b) {cs cd : Cell} (qs : cs.slots.size = S.ln a) (qs6 : ∀ j, j < S.ln a → cs.slots[j]? = some (cv w (av S J a j)))
    (q2 : w.s0.isArrayOf cd ty) (q3 : cd.vm ≠ .unknown) (q4 : cd.slots.size = S.ln b) (q5 : S.tg b < 40 → cd.cls = w.dC (S.tg b)) (q6 : ∀ j, j < S.ln b → cd.slots[j]? = some (cv w (av S J b j)))
    (z1 : H'[rho w b]? = some (cd.storeRun dp (cs.stretch sp n))) (z2 : H'.size = H.size) (z3 : ∀ q, q ≠ rho w b → H'[q]? = H[q]?)
    {S' : Sh} {J' : Jm} (e1 : S'.n = S.n) (e3 : S'.tg = S.tg) (e4 : S'.ln = S.ln) (hJ : ∀ x j, ¬ (x = b ∧ dp ≤ j ∧ j < dp + n) → J' x j = J x j ∧ S'.rf x j = S.rf x j) (hJ3 : ∀ j, in32 (J' b j)) (hv : ∀ i, i < n → av S' J' b (dp + i) = av S J a (sp + i)) : RelM w S' J' H' ∧ w.B ≤ rho w b := by
  obtain ⟨g0, g1⟩ := ar_le htb
  have ha : 64 ≤ b := tg_ge hM g0 h40
  have han : b < S.n := hM.2.2.1 b g0
  obtain ⟨f1, f2, f3, -, -⟩ := cd.storeRun_facts dp (cs.stretch sp n)
  refine ⟨hM.wrote h1 ha han z2 z3 e1 e3 e4 (fun x j hb => hJ x j (fun q => hb q.1)) hJ3 ?_ ?_, by rw [rho_ge ha]; omega⟩
  · intro C T N hc
    rw [e3, g1] at hc
    cases hc
  · intro ty2 hty
    rw [e3] at hty
    cases htb.symm.trans hty
    refine ⟨_, z1, ?_, by rw [f2]; exact q3, by rw [f3, e4]; exact q4, by rw [e3, f1]; exact q5, fun j hj => ?_⟩
    · unfold State.isArrayOf at q2 ⊢
      rw [f1, f2]
      exact q2
    · rw [e4] at hj
      rw [Cell.storeRun_get _ _ _ _ (by rw [stretch_len, q4]; exact hsb), stretch_len]
      by_cases c : dp ≤ j ∧ j < dp + n
      · rw [if_pos c, stretch_get _ _ _ _ (by omega)]
        have h5 := hv (j - dp) (by omega)
        rw [show dp + (j - dp) = j by omega] at h5
        rw [h5]
        have h6 := qs6 (sp + (j - dp)) (by omega)
        congr 1
        rw [Array.getD_eq_getD_getElem?, h6]
        rfl
      · rw [if_neg c, q6 j hj]
        unfold av
        rw [e3, (hJ b j (fun q => c q.2)).1, (hJ b j (fun q => c q.2)).2]
theorem acopy_W {a b idx : Nat} {sp dp n : Int} {ty : FieldType} (hd : decode f.code pc = .ok (.invokestatic idx, 3)) (hl : Cond.methodLink f.cls idx arraycopyName ∈ lw_all) (hta : arF (S.tg a) = some ty) (htb : arF (S.tg b) = some ty) (h40a : S.tg a < 40) (h40 : S.tg b < 40) (hk4 : kdT ty ≠ 4) (h0 : 0 ≤ sp) (h1' : 0 ≤ dp) (h2' : 0 ≤ n) (hsa : sp + n ≤ S.ln a) (hsb : dp + n ≤ S.ln b) (hdd : 1 ≤ d) (hrm : 2 * st.length ≤ 40)
    {S' : Sh} {J' : Jm} (e1 : S'.n = S.n) (e2 : S'.sl = S.sl) (e3 : S'.tg = S.tg) (e4 : S'.ln = S.ln) (hJ : ∀ x j, ¬ (x = b ∧ dp.toNat ≤ j ∧ j < dp.toNat + n.toNat) → J' x j = J x j ∧ S'.rf x j = S.rf x j) (hJ3 : ∀ j, J' b j = J b j ∨ ∃ k, J' b j = J a k) (hv : ∀ i, i < n.toNat → av S' J' b (dp.toNat + i) = av S J a (sp.toNat + i))
    (hval : ∀ (s T : State) (vm' : Vm) (H : Heap) (dComp : ClassId), Wok w → w.s0.WarmedH s.vm → RelM w S J H → T.heap = H → s.vm.Alike vm' → (∃ kd : Class, s.vm.classes[w.dC (S.tg b)]? = some kd ∧ kd.kind = .array dComp ty) → ∀ i, i < n.toNat → fits ty (cv w (av S J a (sp.toNat + i))) = true ∧ (T.setVm vm').takes dComp (cv w (av S J a (sp.toNat + i))))
    (K : V w d f (pc + 3) ls st S' J' Q) : V w d f pc ls (vI n :: vI dp :: vR b :: vI sp :: vR a :: st) S J Q := by
  intro p l e R s m args below meth c H locs cells slots la h1 h2 h3 h4 h5 h6 h7 h8
  have hzn : in32 n := h7 (vI n) List.mem_cons_self
  have hzd : in32 dp := h7 (vI dp) (List.mem_cons_of_mem _ List.mem_cons_self)
  have hzs : in32 sp := h7 (vI sp) (List.mem_cons_of_mem _ (List.mem_cons_of_mem _ (List.mem_cons_of_mem _ List.mem_cons_self)))
  have hts := hts_of (args := args) h1 h2.2.2.2.2.2.2.2.2
  have hA := h2.2.2.2.2.2.2.2.2.alike
  obtain ⟨cs, s1, s2, s3, s4, s5, s6⟩ := h4.2.2.2.2.2.2.1 a _ hta
  obtain ⟨cd, q1, q2, q3, q4, q5, q6⟩ := h4.2.2.2.2.2.2.1 b _ htb
  obtain ⟨-, ks, hks, sComp, hsk⟩ := State.isArrayOf_alike hA s2
  obtain ⟨-, kd, hkd, dComp, hdk⟩ := State.isArrayOf_alike hA q2
  intro T hT X
  have hidx : ∀ z : Int, in32 z → 0 ≤ z → ¬ (Int32.ofInt z < 0) := fun z h3 h4 => by rw [n_0, n_lt h3 in_0]; omega
  have hin : ∀ z : Int, in32 z → (Int32.ofInt z).toInt = z := fun z h => Int32.toInt_ofInt_of_le h.1 (by have := h.2; omega)
  obtain ⟨vm', X', step⟩ := X.arraycopy h2.1 h2.2.2.2.2.2.1 (hts _ hl) (hts _ q666) (hts _ q665) (hts _ q105) (src := rho w a) (dst := rho w b) (srcPos := Int32.ofInt sp) (destPos := Int32.ofInt dp) (n := Int32.ofInt n) (cs := cs) (cd := cd) (by rw [hT]; exact s1) (by rw [hT]; exact q1) s2.1 q2.1 s3 q3 hks hkd hsk hdk (by cases ty <;> simp [refKind]) (hidx _ hzs h0) (hidx _ hzd h1') (hidx _ hzn h2') (by rw [hin _ hzs, hin _ hzn, s4]; omega) (by rw [hin _ hzd, hin _ hzn, q4]; omega) (fun vm' hvm i hi => by
      rw [n_clamp hzn] at hi
      rw [n_clamp hzs]
      have h9 : cs.slots.getD (sp.toNat + i) .null = cv w (av S J a (sp.toNat + i)) := by
        rw [Array.getD_eq_getD_getElem?, s6 (sp.toNat + i) (by omega)]
        rfl
      rw [h9]
      exact hval s T vm' H dComp h1 h2.2.2.2.2.2.2.2.2 h4 hT hvm ⟨kd, by rw [← q5 h40]; exact hkd, hdk⟩ i hi) (g := F0 m pc la (((vI n :: vI dp :: vR b :: vI sp :: vR a :: st)).map (cv w))) rfl (by show la.size = _; rw [h5.1, h6, h2.2.2.1]) rfl (by rw [h2.2.1]; exact hd) (by have := h3.1; omega) (by
      show 2 * 0 + _ + _ ≤ _
      have hw : nativeFrameWords "java/lang/System" "arraycopy" 5 ≤ 10 := by decide
      have hcs := cat_sum w st
      have hr2 := h3.2.1
      omega)
  have ecp : copied cs cd (Int32.ofInt sp) (Int32.ofInt dp) (Int32.ofInt n) = cd.storeRun dp.toNat (cs.stretch sp.toNat n.toNat) := by
    show cd.storeRun _ (cs.stretch _ _) = _
    rw [n_clamp hzn, n_clamp hzs, n_clamp hzd]
  rw [ecp] at step X'
  rw [n_clamp hzn, n_clamp hzs, n_clamp hzd] at X'
  have hHs : ((T.setVm vm').setCell (rho w b) (cd.storeRun dp.toNat (cs.stretch sp.toNat n.toNat))).heap = H.setIfInBounds (rho w b) (cd.storeRun dp.toNat (cs.stretch sp.toNat n.toNat)) := by
    rw [← hT]
    rfl
  have hlt : rho w b < H.size := by
    rcases Nat.lt_or_ge (rho w b) H.size with q | q
    · exact q
    · rw [Array.getElem?_eq_none q] at q1
      cases q1
  obtain ⟨hM, hB⟩ := h4.copy h1 hta htb h40 (sp := sp.toNat) (dp := dp.toNat) (n := n.toNat) (by omega) (by omega) s4 s6 q2 q3 q4 q5 q6 (H' := H.setIfInBounds (rho w b) (cd.storeRun dp.toNat (cs.stretch sp.toNat n.toNat))) (by rw [Array.getElem?_setIfInBounds_self_of_lt hlt]) (by rw [Array.size_setIfInBounds]) (fun q hq => by rw [Array.getElem?_setIfInBounds_ne (fun e => hq e.symm)]) (S' := S') (J' := J') e1 e3 e4 hJ (fun j => by
      rcases hJ3 j with q | ⟨k, q⟩
      · rw [q]; exact h4.2.2.2.2.2.2.2.1 b j
      · rw [q]; exact h4.2.2.2.2.2.2.2.1 a k) hv
  have h3' : RoomOk d R cells slots S' := by
    unfold RoomOk at h3 ⊢
    rw [e1, e2]
    exact h3
  have kk := K p l e R s m args below meth c _ _ cells slots la h1 h2 h3' hM h5 h6 (fun u hu => h7 u (List.mem_cons_of_mem _ (List.mem_cons_of_mem _ (List.mem_cons_of_mem _ (List.mem_cons_of_mem _ (List.mem_cons_of_mem _ hu)))))) (app_ok h8 (L := (cs.stretch sp.toNat n.toNat).zipIdx.map fun q => ⟨rho w b, dp.toNat + q.2⟩) (fun q hq => by
      obtain ⟨x, -, hx⟩ := List.mem_map.mp hq
      rw [← hx]
      exact hB))
  obtain ⟨t, a1, b1⟩ := kk _ hHs X'
  refine ⟨t, step t a1, ?_⟩
  unfold Fin1 at b1 ⊢
  rw [e1, e2] at b1
  exact b1
/-- ints from array a into array b -/
def cpJ (J : Jm) (a sp b dp n : Nat) : Jm := fun x k => if x = b ∧ dp ≤ k ∧ k < dp + n then J a (sp + (k - dp)) else J x k
def cpS (S : Sh) (a sp b dp n : Nat) : Sh := (S.n, S.sl, S.tg, S.ln, fun x k => if x = b ∧ dp ≤ k ∧ k < dp + n then S.rf a (sp + (k - dp)) else S.rf x k)
theorem v_acopyI {a b idx : Nat} {sp dp n : Int} (hd : decode f.code pc = .ok (.invokestatic idx, 3)) (hl : Cond.methodLink f.cls idx arraycopyName ∈ lw_all) (hta : S.tg a = 32) (htb : S.tg b = 32) (h0 : 0 ≤ sp) (h1' : 0 ≤ dp) (h2' : 0 ≤ n) (hsa : sp + n ≤ S.ln a) (hsb : dp + n ≤ S.ln b) (hdd : 1 ≤ d) (hrm : 2 * st.length ≤ 40)
    (K : V w d f (pc + 3) ls st S (cpJ J a sp.toNat b dp.toNat n.toNat) Q) : V w d f pc ls (vI n :: vI dp :: vR b :: vI sp :: vR a :: st) S J Q := by
  have eav : ∀ x k, S.tg x = 32 → av S J x k = vI (J x k) := fun x k h => by unfold av fk; rw [h]; rfl
  refine acopy_W (ty := .int) hd hl (by rw [hta]; rfl) (by rw [htb]; rfl) (by rw [hta]; decide) (by rw [htb]; decide) (by decide) h0 h1' h2' hsa hsb hdd hrm (S' := S) (J' := cpJ J a sp.toNat b dp.toNat n.toNat) rfl rfl rfl rfl (fun x j h => ⟨if_neg h, rfl⟩) (fun j => ?_) (fun i hi => ?_) (fun s T vm' H dComp _ _ _ _ _ _ i hi => ?_) K
  · unfold cpJ
    split
    · exact .inr ⟨_, rfl⟩
    · exact .inl rfl
  · have e2 : av S (cpJ J a sp.toNat b dp.toNat n.toNat) b (dp.toNat + i) = vI (cpJ J a sp.toNat b dp.toNat n.toNat b (dp.toNat + i)) := by unfold av fk; rw [htb]; rfl
    rw [e2, eav a _ hta]
    unfold cpJ
    rw [if_pos ⟨rfl, by omega, by omega⟩, show dp.toNat + i - dp.toNat = i by omega]
  · rw [eav a _ hta]
    exact ⟨rfl, trivial⟩
/-- an object of ours, for an Object[] -/
def objT (t : Nat) : Prop := ∃ (C : String) (T0 : u_T) (N : Nat), clF t = some (C, T0, N) ∧ Cond.castable C "java/lang/Object" ∈ lw_tbl
theorem objT_2 : objT 2 := ⟨_, _, _, rfl, q2248⟩
theorem objT_7 : objT 7 := ⟨_, _, _, rfl, q2251⟩
theorem objT_13 : objT 13 := ⟨_, _, _, rfl, q2255⟩
theorem objT_14 : objT 14 := ⟨_, _, _, rfl, q2256⟩
theorem objT_15 : objT 15 := ⟨_, _, _, rfl, q2257⟩
theorem objT_16 : objT 16 := ⟨_, _, _, rfl, q2259⟩
theorem objT_17 : objT 17 := ⟨_, _, _, rfl, q2260⟩
theorem v_acopyO {a b idx : Nat} {sp dp n : Int} (hd : decode f.code pc = .ok (.invokestatic idx, 3)) (hl : Cond.methodLink f.cls idx arraycopyName ∈ lw_all) (hta : S.tg a = 37) (htb : S.tg b = 37) (h0 : 0 ≤ sp) (h1' : 0 ≤ dp) (h2' : 0 ≤ n) (hsa : sp + n ≤ S.ln a) (hsb : dp + n ≤ S.ln b) (hdd : 1 ≤ d) (hrm : 2 * st.length ≤ 40)
    (ho : ∀ i r, i < n.toNat → S.rf a (sp.toNat + i) = some r → objT (S.tg r))
    (K : V w d f (pc + 3) ls st (cpS S a sp.toNat b dp.toNat n.toNat) J Q) : V w d f pc ls (vI n :: vI dp :: vR b :: vI sp :: vR a :: st) S J Q := by
  have eav : ∀ (S2 : Sh) x k, S2.tg x = 37 → av S2 J x k = vO (S2.rf x k) := fun S2 x k h => by unfold av fk; rw [h]; rfl
  refine acopy_W (ty := .object "java/lang/Object") hd hl (by rw [hta]; rfl) (by rw [htb]; rfl) (by rw [hta]; decide) (by rw [htb]; decide) (by decide) h0 h1' h2' hsa hsb hdd hrm (S' := cpS S a sp.toNat b dp.toNat n.toNat) (J' := J) rfl rfl rfl rfl (fun x j h => ⟨rfl, if_neg h⟩) (fun j => .inl rfl) (fun i hi => ?_) (fun s T vm' H dComp h1 hW h4 hT hvm hkd i hi => ?_) K
  · rw [eav (cpS S a sp.toNat b dp.toNat n.toNat) b _ htb, eav S a _ hta]
    show vO (if b = b ∧ dp.toNat ≤ dp.toNat + i ∧ dp.toNat + i < dp.toNat + n.toNat then S.rf a (sp.toNat + (dp.toNat + i - dp.toNat)) else S.rf b (dp.toNat + i)) = _
    rw [if_pos ⟨rfl, by omega, by omega⟩, show dp.toNat + i - dp.toNat = i by omega]
  · rw [eav S a _ hta]
    cases e : S.rf a (sp.toNat + i) with
    | none => exact ⟨rfl, trivial⟩
    | some r =>
      refine ⟨rfl, ?_⟩
      obtain ⟨C, T0, N, hcl, hc⟩ := ho i r hi e
      obtain ⟨kd, hkd1, hkd2⟩ := hkd
      obtain ⟨kA, comp, k1, k2, k3, -⟩ := (h1.2.2.1 37 (.object "java/lang/Object") (by decide) rfl).2.moved hW.alike
      rw [htb] at hkd1
      cases hkd1.symm.trans k1
      rw [hkd2] at k2
      cases k2
      obtain ⟨c0, t0, f1, f2, f3⟩ := Cond.castable_spec (va_Nw.use (A := #[]) rfl (va_Nw.warmC hW (h1.1 _ hc)))
      obtain ⟨cell, hcell, hcls, hvm2, -⟩ := h4.2.2.2.2.2.1 r C T0 N hcl
      obtain ⟨-, hfc, -⟩ := u_Kn_moved hW.alike (h1.2.1 _ C T0 N hcl)
      cases f2.symm.trans k3
      cases f1.symm.trans hfc
      obtain ⟨kc, hkc, -⟩ := Vm.findClass_spec k3
      obtain ⟨kv, hkv, -⟩ := Vm.findClass_spec hfc
      obtain ⟨kv', hkv', -⟩ := hvm.2.2 _ _ hkv
      obtain ⟨kc', hkc', -⟩ := hvm.2.2 _ _ hkc
      refine ⟨cell, by rw [← hT] at hcell; exact hcell, (fun q h => by rw [hvm2] at h; cases h), ⟨kv', by rw [hcls]; exact hkv'⟩, ⟨kc', hkc'⟩, ?_⟩
      rw [hcls]
      show vm'.assignable _ _ = true
      rw [hvm.assignable]
      exact f3
/-- an array of objects tells its class -/
theorem v_ldcM {idx : Nat} (hd : decode f.code pc = .ok (.ldc idx, 2)) (hl : Cond.classLink f.cls idx "[Ljava/lang/Object;" ∈ lw_all) (K : V w d f (pc + 2) ls (vR 55 :: st) S J Q) : V w d f pc ls st S J Q := by
  intro p l e R s m args below meth c H locs cells slots la h1 h2 h3 h4 h5 h6 h7 h8
  have hts := hts_of (args := args) h1 h2.2.2.2.2.2.2.2.2
  have hMi : va_Mi "[Ljava/lang/Object;" (w.old 55) s := va_Mi.moved h2.2.2.2.2.2.2.2.2.alike h1.2.2.2.2.2.2.2.2.2
  exact va_ldcM h2.1 h2.2.1 h2.2.2.2.2.2.1 (hts _ hl) hMi hd (K p l e R s m args below meth c H locs cells slots la h1 h2 h3 h4 h5 h6 (List.forall_mem_cons.mpr ⟨trivial, h7⟩) h8)
theorem v_acmpS {a : Nat} {off : Int} {tgt : Nat} (hd : decode f.code pc = .ok (.if_acmp .ne off, 3)) (ht : (pc : Int) + off = (tgt : Int)) (K : V w d f (pc + 3) ls st S J Q) : V w d f pc ls (vR a :: vR a :: st) S J Q := by
  intro p l e R s m args below meth c H locs cells slots la h1 h2 h3 h4 h5 h6 h7 h8
  exact lv_acmp_ne (rx := some (rho w a)) (ry := some (rho w a)) h2.1 h2.2.1 hd ht (fun q => absurd rfl q) (fun _ => K p l e R s m args below meth c H locs cells slots la h1 h2 h3 h4 h5 h6 (fun u hu => h7 u (List.mem_cons_of_mem _ (List.mem_cons_of_mem _ hu))) h8)
theorem v_getC {a idx : Nat} (hd : decode f.code pc = .ok (.invokevirtual idx, 3)) (hl : Cond.methodLink f.cls idx ⟨"java/lang/Object", "getClass", "()Ljava/lang/Class;"⟩ ∈ lw_all) (ht : S.tg a = 37) (hdd : 1 ≤ d) (hrm : 2 * st.length ≤ 40) (K : V w d f (pc + 3) ls (vR 55 :: st) S J Q) : V w d f pc ls (vR a :: st) S J Q := by
  intro p l e R s m args below meth c H locs cells slots la h1 h2 h3 h4 h5 h6 h7 h8
  have hW := h2.2.2.2.2.2.2.2.2
  have hts := hts_of (args := args) h1 hW
  have hMi : va_Mi "[Ljava/lang/Object;" (w.old 55) s := va_Mi.moved hW.alike h1.2.2.2.2.2.2.2.2.2
  have hcs := cat_sum w st
  have hr1 := h3.1
  have hr2 := h3.2.1
  have har : arF (S.tg a) = some (.object "java/lang/Object") := by rw [ht]; rfl
  obtain ⟨cell, q1, q2, q3, q4, q5, q6⟩ := h4.2.2.2.2.2.2.1 a _ har
  obtain ⟨kA, comp, k1, k2, k3, k4⟩ := (h1.2.2.1 37 (.object "java/lang/Object") (by decide) rfl).2.moved hW.alike
  refine va_getC h2.1 h2.2.1 (by rw [h2.2.2.1, ← h6, ← h5.1]) h2.2.2.2.2.2.1 (hts _ hl) (va_Nw.use rfl (va_Nw.warmD hW (h1.1 _ q2271))) (hts _ q2270) (hts _ q727) (hts _ q750) hMi ⟨cell, q1, by cases h : cell.vm <;> first | rfl | exact absurd h (q2.1 _), ?_⟩ (by omega) (by omega) hd (K p l e R s m args below meth c H locs cells slots la h1 h2 h3 h4 h5 h6 (List.forall_mem_cons.mpr ⟨trivial, fun u hu => h7 u (List.mem_cons_of_mem _ hu)⟩) h8)
  rw [q5 (by rw [ht]; decide), ht]
  exact k4
end Copy
theorem lay_cp {S : Sh} {a sp b dp n : Nat} (h : Lay S) (ht : S.tg b = 37) : Lay (cpS S a sp b dp n) := by
  have key : ∀ q ∈ layR, ∃ x ∈ layT, x.1 = q.1 ∧ x.2.1 ≠ 37 := by decide +kernel
  obtain ⟨h0, h1, h2, h3, h4⟩ := id h
  refine ⟨h0, h1, fun q hq => ?_, fun i hi => ⟨?_, (h3 i hi).2⟩, fun i hi => ?_⟩
  · refine Eq.trans (if_neg (fun e => ?_)) (h2 q hq)
    obtain ⟨x, hx, e1, e2⟩ := key q hq
    have := (h1 x hx).1
    rw [e1, e.1, ht] at this
    exact e2 this.symm
  · refine Eq.trans (if_neg (fun e => ?_)) (h3 i hi).1
    have := (L_87 h).1
    rw [e.1, ht] at this
    cases this
  · refine Eq.trans (if_neg (fun e => ?_)) (h4 i hi)
    have := (L_291 h).1
    rw [e.1, ht] at this
    cases this
theorem Ex.cp {S : Sh} {a sp b dp n : Nat} : Ex S (cpS S a sp b dp n) := ⟨Nat.le_refl _, Nat.le_refl _, fun _ _ => ⟨rfl, rfl⟩⟩
theorem v_aastP {w : Wd} {d : Nat} {f : MI} {pc : Nat} {ls : List (Option AV)} {st : List AV} {S : Sh} {J : Jm} {Q : Out → Sh → Jm → Prop} {a v : Nat} {i : Int} (hd : decode f.code pc = .ok (.aastore, 1)) (ht : S.tg a = 37) (hv : objT (S.tg v)) (h0 : 0 ≤ i) (hi : i < S.ln a) (K : V w d f (pc + 1) ls st (upR S a i.toNat (some v)) J Q) : V w d f pc ls (vR v :: vI i :: vR a :: st) S J Q := by
  obtain ⟨C, T0, N, hcl, hc⟩ := hv
  exact v_aastO hd ht rfl hcl hc h0 hi K
theorem objT.ex {S S' : Sh} (h : Ex S S') (hs : Shp S) {a : Nat} (e : objT (S.tg a)) : objT (S'.tg a) := by
  have h0 : S.tg a ≠ 0 := fun q => by
    obtain ⟨C, T0, N, hcl, -⟩ := e
    rw [q] at hcl
    cases hcl
  rw [(h.2.2 a (hs.lt rfl h0)).1]
  exact e
