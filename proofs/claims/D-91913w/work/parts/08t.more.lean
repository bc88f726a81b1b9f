/-! rules of V: casts, references into arrays, arrays of references, throwing -/
set_option maxRecDepth 100000
section More
variable {w : Wd} {d d' : Nat} {f g : MI} {pc : Nat} {ls : List (Option AV)} {st rest : List AV} {S : Sh} {J : Jm} {Q : Out → Sh → Jm → Prop}
theorem rcv_of {p : Program} {s : State} {m : MethodId} {meth : Method} {c : Code} {H : Heap} (h1 : Wok w) (h2 : CxOk w f p s m meth c) (h4 : RelM w S J H) {a t : Nat} {C : String} {T0 : u_T} {N : Nat} (ht : S.tg a = t) (hcl : clF t = some (C, T0, N)) :
    ∃ cell : Cell, H[rho w a]? = some cell ∧ cell.vm.isStatics = false ∧ s.vm.findClass C = some cell.cls := by
  rw [← ht] at hcl
  obtain ⟨cell, hcell, hcls, hvm, -⟩ := h4.2.2.2.2.2.1 a C T0 N hcl
  obtain ⟨-, hfc, -⟩ := u_Kn_moved h2.2.2.2.2.2.2.2.2.alike (h1.2.1 _ C T0 N hcl)
  rw [← hcls] at hfc
  exact ⟨cell, hcell, by rw [hvm]; rfl, hfc⟩
theorem v_castY {a idx t : Nat} {C nm : String} {T0 : u_T} {N : Nat} (hd : decode f.code pc = .ok (.checkcast idx, 3)) (hl : Cond.classLink f.cls idx nm ∈ lw_all) (ht : S.tg a = t) (hcl : clF t = some (C, T0, N)) (hc : Cond.castable C nm ∈ lw_tbl) (K : V w d f (pc + 3) ls (vR a :: st) S J Q) : V w d f pc ls (vR a :: st) S J Q := by
  intro p l e R s m args below meth c H locs cells slots la h1 h2 h3 h4 h5 h6 h7 h8
  have hts := hts_of (args := args) h1 h2.2.2.2.2.2.2.2.2
  exact va_castY h2.1 h2.2.1 h2.2.2.2.2.2.1 (hts _ hl) (va_Nw.warmC h2.2.2.2.2.2.2.2.2 (h1.1 _ hc)) (rcv_of h1 h2 h4 ht hcl) hd (K p l e R s m args below meth c H locs cells slots la h1 h2 h3 h4 h5 h6 h7 h8)
theorem v_castE {a idx t : Nat} {C : String} {T0 : u_T} {N : Nat} (hd : decode f.code pc = .ok (.checkcast idx, 3)) (hl : Cond.classLink f.cls idx C ∈ lw_all) (ht : S.tg a = t) (hcl : clF t = some (C, T0, N)) (K : V w d f (pc + 3) ls (vR a :: st) S J Q) : V w d f pc ls (vR a :: st) S J Q := by
  intro p l e R s m args below meth c H locs cells slots la h1 h2 h3 h4 h5 h6 h7 h8
  have hts := hts_of (args := args) h1 h2.2.2.2.2.2.2.2.2
  exact va_castE h2.1 h2.2.1 h2.2.2.2.2.2.1 (hts _ hl) (rcv_of h1 h2 h4 ht hcl) hd (K p l e R s m args below meth c H locs cells slots la h1 h2 h3 h4 h5 h6 h7 h8)
theorem v_instE {a idx t : Nat} {C : String} {T0 : u_T} {N : Nat} (hd : decode f.code pc = .ok (.instanceof idx, 3)) (hl : Cond.classLink f.cls idx C ∈ lw_all) (ht : S.tg a = t) (hcl : clF t = some (C, T0, N)) (K : V w d f (pc + 3) ls (vI 1 :: st) S J Q) : V w d f pc ls (vR a :: st) S J Q := by
  intro p l e R s m args below meth c H locs cells slots la h1 h2 h3 h4 h5 h6 h7 h8
  have hts := hts_of (args := args) h1 h2.2.2.2.2.2.2.2.2
  exact va_instE h2.1 h2.2.1 h2.2.2.2.2.2.1 (hts _ hl) (rcv_of h1 h2 h4 ht hcl) hd (K p l e R s m args below meth c H locs cells slots la h1 h2 h3 h4 h5 h6 (List.forall_mem_cons.mpr ⟨(⟨by decide, by decide⟩ : in32 1), fun u hu => h7 u (List.mem_cons_of_mem _ hu)⟩) h8)
theorem v_instJ {a idx : Nat} (hd : decode f.code pc = .ok (.instanceof idx, 3)) (hl : Cond.classLink f.cls idx "GridRoom$Joins" ∈ lw_all) (ht : S.tg a = 13 ∨ S.tg a = 14) (K : V w d f (pc + 3) ls (vI 0 :: st) S J Q) : V w d f pc ls (vR a :: st) S J Q := by
  intro p l e R s m args below meth c H locs cells slots la h1 h2 h3 h4 h5 h6 h7 h8
  have hts := hts_of (args := args) h1 h2.2.2.2.2.2.2.2.2
  have kk := K p l e R s m args below meth c H locs cells slots la h1 h2 h3 h4 h5 h6 (List.forall_mem_cons.mpr ⟨in_0, fun u hu => h7 u (List.mem_cons_of_mem _ hu)⟩) h8
  rcases ht with ht | ht
  · exact va_instNo h2.1 h2.2.1 h2.2.2.2.2.2.1 (hts _ hl) (va_Nc.moved h2.2.2.2.2.2.2.2.2.alike h1.2.2.2.2.2.2.2.1) (rcv_of (T0 := TX13) (N := 2) h1 h2 h4 ht rfl) hd kk
  · exact va_instNo h2.1 h2.2.1 h2.2.2.2.2.2.1 (hts _ hl) (va_Nc.moved h2.2.2.2.2.2.2.2.2.alike h1.2.2.2.2.2.2.2.2.1) (rcv_of (T0 := TX14) (N := 1) h1 h2 h4 ht rfl) hd kk
/-- a reference is laid into an array of references -/
theorem aast_W {a v : Nat} {i : Int} {ty : FieldType} (hd : decode f.code pc = .ok (.aastore, 1)) (ht : arF (S.tg a) = some ty) (hty : kdT ty = 1) (h40 : S.tg a < 40) (h0 : 0 ≤ i) (hi : i < S.ln a)
    (hval : ∀ (s : State) (H : Heap), Wok w → w.s0.WarmedH s.vm → RelM w S J H → ∃ (kA kcomp kv : Class) (comp : ClassId) (cellV : Cell), s.vm.classes[w.dC (S.tg a)]? = some kA ∧ kA.kind = .array comp ty ∧ s.vm.classes[comp]? = some kcomp ∧ H[rho w v]? = some cellV ∧ (∀ q, cellV.vm ≠ .statics q) ∧ s.vm.classes[cellV.cls]? = some kv ∧ s.vm.assignable cellV.cls comp = true)
    (K : V w d f (pc + 1) ls st (upR S a i.toNat (some v)) J Q) : V w d f pc ls (vR v :: vI i :: vR a :: st) S J Q := by
  intro p l e R s m args below meth c H locs cells slots la h1 h2 h3 h4 h5 h6 h7 h8
  have hzi : in32 i := h7 (vI i) (List.mem_cons_of_mem _ List.mem_cons_self)
  obtain ⟨cell, q1, q2, q3, q4, q5, q6⟩ := h4.2.2.2.2.2.2.1 a _ ht
  obtain ⟨kA, kcomp, kv, comp, cellV, r1, r2, r3, r4, r5, r6, r7⟩ := hval s H h1 h2.2.2.2.2.2.2.2.2 h4
  have hrf : ty.isReference = true := by
    unfold kdT at hty
    split at hty <;> first | rfl | cases hty
  have hidx := n_idx (n := S.ln a) hzi h0 hi
  refine W.aast (v := rho w v) (cell := cell) (k := kA) (t := ty) (j := Int32.ofInt i) h2.1 h2.2.1 q1 q2.1 q3 (by rw [q5 h40]; exact r1) r2 hrf r3 ⟨fun q => hidx (Or.inl q), by rw [q4]; exact Nat.lt_of_not_le fun q => hidx (Or.inr q)⟩ r4 r5 r6 r7 rfl rfl hd (fun H' z1 z2 z3 => ?_)
  rw [n_clamp hzi] at z1 ⊢
  have e9 : av (upR S a i.toNat (some v)) J a i.toNat = vR v := by
    unfold av fk
    have : (upR S a i.toNat (some v)).tg = S.tg := rfl
    rw [this, ar_ty ht, hty]
    show vO (if a = a ∧ i.toNat = i.toNat then some v else S.rf a i.toNat) = vR v
    rw [if_pos ⟨rfl, rfl⟩]
  obtain ⟨hM, hB⟩ := h4.arr h1 ht h40 (i := i.toNat) (by omega) (v := vR v) q1 q2 q3 q4 q5 q6 z1 z2 z3 (S' := upR S a i.toNat (some v)) (J' := J) rfl rfl rfl (fun b j h => ⟨rfl, if_neg h⟩) (h4.2.2.2.2.2.2.2.1 a i.toNat) e9
  exact K p l e R s m args below meth c H' _ cells slots la h1 h2 h3 hM h5 h6 (fun u hu => h7 u (List.mem_cons_of_mem _ (List.mem_cons_of_mem _ (List.mem_cons_of_mem _ hu)))) (app_ok h8 (fun q hq => by rw [List.mem_singleton.mp hq]; exact hB))
/-- into an Object[]: any object of ours -/
theorem v_aastO {a v t : Nat} {i : Int} {C : String} {T0 : u_T} {N : Nat} (hd : decode f.code pc = .ok (.aastore, 1)) (ht : S.tg a = 37) (hv : S.tg v = t) (hcl : clF t = some (C, T0, N)) (hc : Cond.castable C "java/lang/Object" ∈ lw_tbl) (h0 : 0 ≤ i) (hi : i < S.ln a) (K : V w d f (pc + 1) ls st (upR S a i.toNat (some v)) J Q) : V w d f pc ls (vR v :: vI i :: vR a :: st) S J Q := by
  refine aast_W (ty := .object "java/lang/Object") hd (by rw [ht]; rfl) rfl (by rw [ht]; decide) h0 hi (fun s H h1 hW h4 => ?_) K
  obtain ⟨kA, comp, k1, k2, k3, -⟩ := (h1.2.2.1 37 (.object "java/lang/Object") (by decide) rfl).2.moved hW.alike
  obtain ⟨c0, t0, f1, f2, f3⟩ := Cond.castable_spec (va_Nw.use (A := #[]) rfl (va_Nw.warmC hW (h1.1 _ hc)))
  rw [← hv] at hcl
  obtain ⟨cell, hcell, hcls, hvm, -⟩ := h4.2.2.2.2.2.1 v C T0 N hcl
  obtain ⟨-, hfc, -⟩ := u_Kn_moved hW.alike (h1.2.1 _ C T0 N hcl)
  cases f2.symm.trans k3
  cases f1.symm.trans hfc
  obtain ⟨kc, hkc, -⟩ := Vm.findClass_spec k3
  obtain ⟨kv, hkv, -⟩ := Vm.findClass_spec hfc
  exact ⟨kA, kc, kv, comp, cell, by rw [ht]; exact k1, k2, hkc, hcell, (fun q h => by rw [hvm] at h; cases h), by rw [hcls]; exact hkv, by rw [hcls]; exact f3⟩
/-- into the row of settings -/
theorem v_aastS {a v : Nat} {i : Int} (hd : decode f.code pc = .ok (.aastore, 1)) (ht : S.tg a = 38) (hv : S.tg v = 4) (h0 : 0 ≤ i) (hi : i < S.ln a) (K : V w d f (pc + 1) ls st (upR S a i.toNat (some v)) J Q) : V w d f pc ls (vR v :: vI i :: vR a :: st) S J Q := by
  refine aast_W (ty := .object "GridRoom$Setting") hd (by rw [ht]; rfl) rfl (by rw [ht]; decide) h0 hi (fun s H h1 hW h4 => ?_) K
  obtain ⟨kA, comp, k1, k2, k3, -⟩ := (h1.2.2.1 38 (.object "GridRoom$Setting") (by decide) rfl).2.moved hW.alike
  have hcl : clF (S.tg v) = some (RX4, TX4, 6) := by rw [hv]; rfl
  obtain ⟨cell, hcell, hcls, hvm, -⟩ := h4.2.2.2.2.2.1 v _ _ _ hcl
  obtain ⟨-, hfc, -⟩ := u_Kn_moved hW.alike (h1.2.1 _ _ _ _ hcl)
  have hfc' : s.vm.findClass "GridRoom$Setting" = some (w.dC (S.tg v)) := hfc
  cases k3.symm.trans hfc'
  obtain ⟨kc, hkc, -⟩ := Vm.findClass_spec k3
  exact ⟨kA, kc, kc, _, cell, by rw [ht]; exact k1, k2, hkc, hcell, (fun q h => by rw [hvm] at h; cases h), by rw [hcls]; exact hkc, by rw [hcls]; exact va_asg _ _⟩
theorem arrayOver_moved {ty : FieldType} {A : Array Value} {u U : State} (hvm : u.vm.Alike U.vm) (h : (Cond.arrayOver (.array ty)).before #[] u = true) : (Cond.arrayOver (.array ty)).before A U = true := by
  obtain ⟨comp, c, k, h1, h2, h3, h4, h5⟩ := arrayOverA_spec h
  obtain ⟨k', hk', he⟩ := hvm.2.2 _ _ h3
  have hi : (U.vm.classes.findIdx? fun (x : Class) => match x.kind with | .array component _ => component == comp | _ => false) = some c := by
    refine (va_idx_bare U.vm comp).symm.trans ?_
    first | rw [hvm.bare_eq] | rw [← hvm.bare_eq]
    exact (va_idx_bare u.vm comp).trans h2
  have hkind : k'.kind = .array comp (.array ty) := by rw [he]; exact h4
  have f1 : U.vm.findClass (FieldType.array ty).toString = some comp := by rw [hvm.findClass]; exact h1
  have f2 : U.vm.findClass ("[" ++ (FieldType.array ty).toString) = some c := by rw [hvm.findClass]; exact h5
  unfold Cond.before Cond.holds
  simp only [Cond.value]
  rw [f1, Option.bind_some]
  refine (congrArg (fun o : Option Nat => (o.bind (fun c => (U.vm.classes[c]?).map fun (k : Class) => match k.kind with | .array _ ty' => decide (ty' = FieldType.array ty) && decide (U.vm.findClass ("[" ++ (FieldType.array ty).toString) = some c) | _ => false) == some true)) hi).trans ?_
  simp [hk', hkind, f2]
/-- into an int[][] -/
theorem v_aastI {a v : Nat} {i : Int} (hd : decode f.code pc = .ok (.aastore, 1)) (ht : S.tg a = 36) (hv : S.tg v = 32) (h0 : 0 ≤ i) (hi : i < S.ln a) (K : V w d f (pc + 1) ls st (upR S a i.toNat (some v)) J Q) : V w d f pc ls (vR v :: vI i :: vR a :: st) S J Q := by
  refine aast_W (ty := .array .int) hd (by rw [ht]; rfl) rfl (by rw [ht]; decide) h0 hi (fun s H h1 hW h4 => ?_) K
  have k0 : s.vm.findClass "[[I" = some (w.dC 36) := (h1.2.2.1 36 (.array .int) (by decide) rfl).2.moved hW.alike
  have k9 : s.vm.findClass "[I" = some (w.dC 32) := (h1.2.2.1 32 .int (by decide) rfl).2.moved hW.alike
  obtain ⟨comp, cA, kA, z4, -, z2, z3, z1⟩ := arrayOverA_spec (t := .int) (arrayOver_moved (A := #[]) hW.alike (h1.1 _ q189))
  have z1' : s.vm.findClass "[[I" = some cA := z1
  have z4' : s.vm.findClass "[I" = some comp := z4
  cases k0.symm.trans z1'
  cases k9.symm.trans z4'
  obtain ⟨cell, q1, q2, q3, q4, q5, q6⟩ := h4.2.2.2.2.2.2.1 v .int (by rw [hv]; rfl)
  obtain ⟨kc, hkc, -⟩ := Vm.findClass_spec k9
  have q5' : cell.cls = w.dC 32 := by rw [q5 (by rw [hv]; decide), hv]
  exact ⟨kA, kc, kc, _, cell, by rw [ht]; exact z2, z3, hkc, q1, q2.1, by rw [q5']; exact hkc, by rw [q5']; exact va_asg _ _⟩
/-- an array of references is made -/
theorem anew_R {t : Nat} {n : Int} {ty : FieldType} (h1 : Wok w) {H : Heap} (h4 : RelM w S J H) (ht : arF t = some ty) (ht4 : t < 40) (hty : kdT ty = 1) (h0 : 0 ≤ n) (hz : in32 n) :
    RelM w (alS S t n.toNat n.toNat) J (H.push { cls := w.dC t, slots := Array.replicate n.toNat .null, vm := .none }) := by
  have h9 := h4.2.2.2.2.2.2.2.2.1
  refine h4.alloc h1 ht4 (by have := hz.2; omega) (by rw [Array.size_push]) (fun q hq => by rw [Array.getElem?_push, if_neg (Nat.ne_of_lt hq)]) ?_ ?_
  · intro C2 T2 N2 hc2
    rw [alS_tg_self, (ar_le ht).2] at hc2
    cases hc2
  · intro ty2 hty2
    rw [alS_tg_self] at hty2
    cases ht.symm.trans hty2
    rw [alS_tg_self, alS_ln_self, rho_new h4]
    refine ⟨_, Array.getElem?_push_size, ?_, (fun q => by cases q), by simp, fun _ => rfl, fun j hj => ?_⟩
    · have h := (h1.2.2.1 t _ ht4 ht).1 n.toNat (fun _ => .null)
      rw [← arrV_new] at h
      exact h
    · unfold av fk
      rw [alS_tg_self, ar_ty ht, hty]
      have e9 : (alS S t n.toNat n.toNat).rf S.n j = none := (h9 S.n j (Nat.le_refl _)).2
      rw [e9]
      show (Array.replicate n.toNat Value.null)[j]? = some .null
      simp [hj]
theorem v_anewO {t idx : Nat} {n : Int} {C : String} (hd : decode f.code pc = .ok (.anewarray idx, 3)) (hl : Cond.classLink f.cls idx C ∈ lw_all) (ho : Cond.arrayOver (.object C) ∈ lw_tbl) (ht : arF t = some (.object C)) (ht4 : t < 40) (h0 : 0 ≤ n) (hb : n.toNat * 4 ≤ 536870912) (hn : S.n + 1 ≤ capN) (hs : S.sl + n.toNat ≤ capS) (K : (∀ k, J S.n k = 0) → (∀ k, S.rf S.n k = none) → V w d f (pc + 3) ls (vR S.n :: st) (alS S t n.toNat n.toNat) J Q) : V w d f pc ls (vI n :: st) S J Q := by
  intro p l e R s m args below meth c H locs cells slots la h1 h2 h3 h4 h5 h6 h7 h8
  have hz : in32 n := h7 (vI n) List.mem_cons_self
  have hts := hts_of (args := args) h1 h2.2.2.2.2.2.2.2.2
  obtain ⟨hrm, hc1, hs1⟩ := room_alloc (t := t) (len := n.toNat) h3 hn hs
  have h9 := h4.2.2.2.2.2.2.2.2.1
  have hao : va_AO C s := va_AO.moved h2.2.2.2.2.2.2.2.2.alike (h1.1 _ ho)
  refine W.anew h2.1 h2.2.1 h2.2.2.2.2.2.1 (hts _ hl) (va_AO.use hao) rfl hd (n := Int32.ofInt n) rfl (by rw [n_0, n_lt hz in_0]; omega) (by rw [n_clamp hz]; exact hb) hc1 (by rw [n_clamp hz]; exact hs1) (fun cA kA comp z1 z2 z3 z4 => ?_)
  rw [n_clamp hz]
  have hcA : cA = w.dC t := by
    obtain ⟨-, -, -, -, -, q⟩ := (h1.2.2.1 t _ ht4 ht).2.moved h2.2.2.2.2.2.2.2.2.alike
    exact Option.some.inj (z1.symm.trans q)
  subst hcA
  have hM := anew_R h1 h4 ht ht4 rfl h0 hz
  have k := K (fun k => (h9 S.n k (Nat.le_refl _)).1) (fun k => (h9 S.n k (Nat.le_refl _)).2) p l e R s m args below meth c _ locs (cells + 1) (slots + n.toNat) la h1 h2 hrm hM h5 h6 (List.forall_mem_cons.mpr ⟨trivial, fun u hu => h7 u (List.mem_cons_of_mem _ hu)⟩) h8
  have e5 : (vR S.n :: st).map (cv w) = .ref H.size :: st.map (cv w) := by rw [List.map_cons, ← rho_new h4]; rfl
  rw [e5] at k
  exact k.imp fun t h => fin_alloc h
theorem v_anewI {idx : Nat} {n : Int} (hd : decode f.code pc = .ok (.anewarray idx, 3)) (hl : Cond.classLink f.cls idx "[I" ∈ lw_all) (h0 : 0 ≤ n) (hb : n.toNat * 4 ≤ 536870912) (hn : S.n + 1 ≤ capN) (hs : S.sl + n.toNat ≤ capS) (K : (∀ k, J S.n k = 0) → (∀ k, S.rf S.n k = none) → V w d f (pc + 3) ls (vR S.n :: st) (alS S 36 n.toNat n.toNat) J Q) : V w d f pc ls (vI n :: st) S J Q := by
  intro p l e R s m args below meth c H locs cells slots la h1 h2 h3 h4 h5 h6 h7 h8
  have hz : in32 n := h7 (vI n) List.mem_cons_self
  have hts := hts_of (args := args) h1 h2.2.2.2.2.2.2.2.2
  obtain ⟨hrm, hc1, hs1⟩ := room_alloc (t := 36) (len := n.toNat) h3 hn hs
  have h9 := h4.2.2.2.2.2.2.2.2.1
  refine W.anewA (t := .int) h2.1 h2.2.1 h2.2.2.2.2.2.1 (hts _ hl) (arrayOver_moved h2.2.2.2.2.2.2.2.2.alike (h1.1 _ q189)) rfl hd (n := Int32.ofInt n) rfl (by rw [n_0, n_lt hz in_0]; omega) (by rw [n_clamp hz]; exact hb) hc1 (by rw [n_clamp hz]; exact hs1) (fun cA kA comp z1 z2 z3 z4 => ?_)
  rw [n_clamp hz]
  have hcA : cA = w.dC 36 := by
    have q : s.vm.findClass "[[I" = some (w.dC 36) := (h1.2.2.1 36 (.array .int) (by decide) rfl).2.moved h2.2.2.2.2.2.2.2.2.alike
    exact Option.some.inj (z1.symm.trans q)
  subst hcA
  have hM := anew_R (t := 36) h1 h4 rfl (by decide) rfl h0 hz
  have k := K (fun k => (h9 S.n k (Nat.le_refl _)).1) (fun k => (h9 S.n k (Nat.le_refl _)).2) p l e R s m args below meth c _ locs (cells + 1) (slots + n.toNat) la h1 h2 hrm hM h5 h6 (List.forall_mem_cons.mpr ⟨trivial, fun u hu => h7 u (List.mem_cons_of_mem _ hu)⟩) h8
  have e5 : (vR S.n :: st).map (cv w) = .ref H.size :: st.map (cv w) := by rw [List.map_cons, ← rho_new h4]; rfl
  rw [e5] at k
  exact k.imp fun t h => fin_alloc h
theorem v_athrow {a : Nat} (hd : decode f.code pc = .ok (.athrow, 1)) (hh : ∀ x ∈ f.hh, ¬ (x.1 ≤ pc ∧ pc < x.2.1)) (K : Q (.inr a) S J) : V w d f pc ls (vR a :: st) S J Q := by
  intro p l e R s m args below meth c H locs cells slots la h1 h2 h3 h4 h5 h6 h7 h8 T hT X
  subst hT
  have hout : ∀ x ∈ c.exceptionTable.toList, covers x pc = false := by
    intro x hx
    have := hh (x.startPc, x.endPc, x.handlerPc, x.catchType) (by rw [← h2.2.2.2.2.2.2.2.1]; exact List.mem_map.mpr ⟨x, hx, rfl⟩)
    unfold covers
    simpa using this
  obtain ⟨s1, s2, s3, s4, s5⟩ := X.athrowLeaves h2.1 (g := F0 m pc la ((vR a :: st).map (cv w))) rfl rfl rfl hout (a := rho w a) (rest := st.map (cv w)) rfl (by rw [h2.2.1]; exact hd) h2.2.2.2.2.1
  exact ⟨_, s1, .inr a, S, J, locs, cells, slots, s2, s3, s4, s5, h8, Nat.le_refl _, Nat.le_refl _, h3.2.2.1, h3.2.2.2.1, h4, trivial, K⟩
end More
