/-! rules of V: calls -/
set_option maxRecDepth 100000
/-- the locals of an entry: the arguments, then unset ones -/
def ent (f : MI) (as : List AV) : List (Option AV) := as.map some ++ List.replicate (f.maxL - as.length) none
theorem lg_one {w : Wd} : ∀ (as : List AV), (∀ v ∈ as, oneV v) → lg_sl (as.map (cv w)) = as.map (fun v => Slot.val (cv w v))
  | [], _ => rfl
  | v :: r, h => by
    have h1 := cv_cat (w := w) (h v List.mem_cons_self)
    have ih := lg_one (w := w) r (fun u hu => h u (List.mem_cons_of_mem _ hu))
    unfold lg_sl at ih ⊢
    rw [List.map_cons, List.flatMap_cons, ih, h1]
    rfl
theorem ent_ok {w : Wd} {f : MI} {as : List AV} (h1 : ∀ v ∈ as, oneV v) (h2 : ∀ v ∈ as, okV v) (hl : as.length ≤ f.maxL) :
    LvOk w (ent f as) ((lg_sl (as.map (cv w)) ++ List.replicate (f.maxL - (lg_sl (as.map (cv w))).length) Slot.unset).toArray) ∧ (ent f as).length = f.maxL := by
  have hlen : (ent f as).length = f.maxL := by
    unfold ent
    rw [List.length_append, List.length_map, List.length_replicate]
    omega
  have hsl : (lg_sl (as.map (cv w))).length = as.length := by rw [lg_one as h1, List.length_map]
  have he := lv_entry (as.map (cv w)) (n := f.maxL) (by rw [hsl]; exact hl)
  refine ⟨⟨by rw [hlen]; exact he.1, he.2.1, fun i v hi => ?_⟩, hlen⟩
  unfold ent at hi
  have hil : i < as.length := by
    rcases Nat.lt_or_ge i as.length with q | q
    · exact q
    · exfalso
      rw [List.getElem?_append_right (by rw [List.length_map]; exact q), List.getElem?_replicate] at hi
      split at hi
      · cases hi
      · cases hi
  rw [List.getElem?_append_left (by rw [List.length_map]; exact hil), List.getElem?_map, List.getElem?_eq_getElem hil] at hi
  cases hi
  refine ⟨?_, h2 _ (List.getElem_mem hil), h1 _ (List.getElem_mem hil)⟩
  rw [lg_one as h1]
  rw [List.getElem?_toArray, List.getElem?_append_left (by rw [List.length_map]; exact hil), List.getElem?_map, List.getElem?_eq_getElem hil]
  rfl
/-- the words of a method's code: without handlers, or with them -/
def CodeW (g : MI) : Prop := plainFor g.1 = true ∧ ((g.hh = [] ∧ Cond.code g.1 g.code g.maxL g.ret ∈ lw_all) ∨ Cond.codeWith g.1 g.code g.maxL g.ret g.hh ∈ lw_all)
/-- what a call comes to: on with the answer, or out with what was thrown -/
def CallQ (w : Wd) (d : Nat) (f : MI) (pc : Nat) (ls : List (Option AV)) (rest : List AV) (Q : Out → Sh → Jm → Prop) : Out → Sh → Jm → Prop := fun o S' J' => match o with
  | .inl v => V w d f (pc + 3) ls (v.toList ++ rest) S' J' Q
  | .inr a => (∀ x ∈ f.hh, ¬ (x.1 ≤ pc ∧ pc < x.2.1)) ∧ Q (.inr a) S' J'
theorem cat_sum (w : Wd) : ∀ (st : List AV), ((st.map (cv w)).map fun v => v.category).sum ≤ 2 * st.length
  | [] => Nat.le_refl _
  | v :: r => by
    have h := cat_sum w r
    have : (cv w v).category ≤ 2 := by
      rcases lv_cat (cv w v) with q | q <;> omega
    simp only [List.map_cons, List.sum_cons, List.length_cons]
    omega
section Calls9
variable {w : Wd} {d d' : Nat} {f g : MI} {pc : Nat} {ls : List (Option AV)} {rest as : List AV} {S : Sh} {J : Jm} {Q : Out → Sh → Jm → Prop}
theorem code_at {s : State} {mk : MethodId} (h1 : Wok w) (hW : w.s0.WarmedH s.vm) (hc : CodeW g) (hn : s.methodNamed? g.1 = some mk) :
    ∃ methk ck, s.vm.method? mk = some methk ∧ methk.code = some ck ∧ ck.code = g.code ∧ ck.maxLocals = g.maxL ∧ methk.sig.returnType = g.ret ∧ methk.locks = false ∧ ck.exceptionTable.toList.map (fun x => (x.startPc, x.endPc, x.handlerPc, x.catchType)) = g.hh ∧ s.plainMethod mk ∧ methk.name = g.1.name ∧ parseMethodDescriptor g.1.desc = some methk.sig := by
  have hts := hts_of (args := #[]) h1 hW
  rcases hc with ⟨hp, ⟨hh, hc⟩ | hc⟩
  · obtain ⟨methk, ck, a1, a2, a3, a4, a5, a6, a7, a9⟩ := Cond.code_spec hn (hts _ hc)
    refine ⟨methk, ck, a1, a2, a3, a4, a5, a6, ?_, State.plainMethod.of_named hp hn a1, ?_, a9⟩
    · rw [hh]
      rw [Array.isEmpty_iff] at a7
      rw [a7]
      rfl
    · exact (name_of_methodNamed hn a1).1
  · obtain ⟨m9, methk, ck, a0, a1, a2, a3, a4, a7, a5, a6, a9⟩ := Cond.codeWith_spec (hts _ hc)
    cases hn.symm.trans a0
    exact ⟨methk, ck, a1, a2, a3, a4, a5, a6, a7, State.plainMethod.of_named hp hn a1, (name_of_methodNamed hn a1).1, a9⟩
/-- a call, from where the machine has found the callee: it goes on behind the call, or out -/
theorem call_core {p : Program} {l : Launch} {e : Env} {R : Room} {s : State} {m : MethodId} {args : Array Value} {below : List Frame} {meth : Method} {c : Code} {T : State} {locs : List Loc} {cells slots : Nat} {la : Array Slot} {ig : Instr} {mk : MethodId} {acts : List Action}
    (h1 : Wok w) (h2 : CxOk w f p s m meth c) (h3 : RoomOk d R cells slots S) (h4 : RelM w S J T.heap) (h5 : LvOk w ls la) (h6 : ls.length = f.maxL) (h7 : ∀ v ∈ rest, okV v) (h7a : ∀ v ∈ as, okV v) (h8 : ∀ q ∈ locs, w.B ≤ q.base)
    (X : Stand p l e R s m args below meth c T locs cells slots) (hd : decode f.code pc = .ok (ig, 3)) (hn : T.methodNamed? g.1 = some mk) (hc : CodeW g) (h1v : ∀ v ∈ as, oneV v) (hal : as.length ≤ g.maxL) (hdd : d' + 1 ≤ d) (hrm : 2 * rest.length + g.maxL ≤ 53)
    (K : V w d' g 0 (ent g as) [] S J (CallQ w d f pc ls rest Q)) :
    ∃ t, Steps p.tables e below (doInvoke e (T.setTop (F0 m pc la (rest.map (cv w)))) acts mk (as.map (cv w)).toArray).1 t ∧ Fin1 w s below cells slots S Q t := by
  have hWT : w.s0.WarmedH T.vm := State.WarmedH.trans h2.2.2.2.2.2.2.2.2 X.warmed
  obtain ⟨methk, ck, a1, a2, a3, a4, a5, a6, a7, a8, a9, -⟩ := code_at h1 hWT hc hn
  have hsize : (F0 m pc la (rest.map (cv w))).locals.size = c.maxLocals := by
    show la.size = _
    rw [h5.1, h6, h2.2.2.1]
  have hdg : decode c.code (F0 m pc la (rest.map (cv w))).pc = .ok (ig, 3) := by rw [h2.2.1]; exact hd
  have hcs := cat_sum w rest
  obtain ⟨r1, r2, r3, r4, r5, r6⟩ := h3
  obtain ⟨Y, hin⟩ := X.into (g := F0 m pc la (rest.map (cv w))) rfl hsize hdg (as.map (cv w)).toArray (R' := { frames := d', cells := capN - S.n, slots := capS - S.sl, locals := 64 * d' }) a1 a2 a6 a8 (by show d' + 1 ≤ _; omega) (by
    show 2 * 0 + ((rest.map (cv w)).map fun v => v.category).sum + (ck.maxLocals + 11) + 64 * d' ≤ _
    rw [a4]
    omega) r5 r6
  generalize hU : (T.setTop (F0 m pc la (rest.map (cv w)))).pushFrame (.java (entryFrame mk (as.map (cv w)).toArray ck.maxLocals)) = U at Y hin
  have hUh : U.heap = T.heap := by rw [← hU]; rfl
  have hL := ent_ok (w := w) (f := g) h1v h7a hal
  have hW := K p l e { frames := d', cells := capN - S.n, slots := capS - S.sl, locals := 64 * d' } (T.calling (F0 m pc la (rest.map (cv w))) mk (as.map (cv w)).toArray) mk (as.map (cv w)).toArray (.java (F0 m pc la (rest.map (cv w))) :: below) methk ck T.heap [] 0 0 _ h1
    ⟨h2.1, a3, a4, a5, a6, findClass_of_methodNamed (s := T) hn, a9, a7, hWT⟩ ⟨Nat.le_refl _, Nat.le_refl _, r3, r4, by show 0 + (capN - S.n) ≤ capN - S.n; omega, by show 0 + (capS - S.sl) ≤ capS - S.sl; omega⟩ h4 hL.1 hL.2 (fun v hv => by cases hv) (fun q hq => by cases hq)
  obtain ⟨t, st, o, S', J', L, k, n, b1, b2, b3, b4, b5, b6, b7, b8, b9, b10, b11, b12⟩ := hW U hUh Y
  have st' : Steps p.tables e below (doInvoke e (T.setTop (F0 m pc la (rest.map (cv w)))) acts mk (as.map (cv w)).toArray).1 t := by
    rw [hin acts, a4, lg_entry_eq]
    exact Steps.weaken (mid := [.java (F0 m pc la (rest.map (cv w)))]) st
  cases o with
  | inl v =>
    obtain ⟨T', X', hW', hB', ht⟩ := X.outOf (g := F0 m pc la (rest.map (cv w))) rfl hdg b2 b3 b4
    have hh : T'.heap = t.heap := by rw [ht]; rfl
    have hok : ∀ u ∈ v.toList ++ rest, okV u := by
      intro u hu
      rcases List.mem_append.mp hu with q | q
      · cases v with
        | none => cases q
        | some v => rw [List.mem_singleton.mp q]; exact b11
      · exact h7 u q
    have hV := b12 p l e R s m args below meth c T'.heap (locs ++ L) (cells + k) (slots + n) la h1 h2 ⟨r1, r2, b8, b9, by omega, by omega⟩ (by rw [hh]; exact b10) h5 h6 hok (app_ok h8 b5)
    obtain ⟨t2, st2, o2, S2, J2, L2, k2, n2, c1, c2, c3, c4, c5, c6, c7, c8⟩ := hV T' rfl X'
    refine ⟨t2, st'.trans ?_, o2, S2, J2, L2, k2, n2, c1, c2, c3, c4, c5, by omega, by omega, c8⟩
    rw [ht]
    have e9 : (v.map (cv w)).toList ++ (F0 m pc la (rest.map (cv w))).stack = (v.toList ++ rest).map (cv w) := by
      cases v with
      | none => rfl
      | some v => rfl
    have e8 : ({ F0 m pc la (rest.map (cv w)) with pc := (F0 m pc la (rest.map (cv w))).pc + 3, stack := (v.map (cv w)).toList ++ (F0 m pc la (rest.map (cv w))).stack } : JFrame) = F0 m (pc + 3) la ((v.toList ++ rest).map (cv w)) := by rw [e9]
    rw [e8]
    exact st2
  | inr a =>
    obtain ⟨T', X', hW', hB', ht⟩ := X.outOfThrown (g := F0 m pc la (rest.map (cv w))) rfl b2 b3 b4
    have hh : T'.heap = t.heap := by rw [ht]; rfl
    obtain ⟨u1, u2⟩ := b12
    have hout : ∀ x ∈ c.exceptionTable.toList, covers x pc = false := by
      intro x hx
      have := u1 (x.startPc, x.endPc, x.handlerPc, x.catchType) (by rw [← h2.2.2.2.2.2.2.2.1]; exact List.mem_map.mpr ⟨x, hx, rfl⟩)
      unfold covers
      simpa using this
    obtain ⟨s1, s2, s3, s4, s5⟩ := X'.leaveThrown (rho w a) (g := F0 m pc la (rest.map (cv w))) rfl rfl rfl hout h2.2.2.2.2.1
    refine ⟨_, st'.trans (by rw [ht]; exact s1), .inr a, S', J', locs ++ L, cells + k, slots + n, s2, s3, s4, s5, app_ok h8 b5, by omega, by omega, b8, b9, ?_, trivial, u2⟩
    show RelM w S' J' T'.heap
    rw [hh]
    exact b10
/-- the answer's end of the rules: from W's shape -/
def LinkW (own : String) (idx : Nat) (y : MethodName) : Prop := Cond.methodLink own idx y ∈ lw_all ∨ ∃ host, Cond.methodLinkNest own idx y host ∈ lw_tbl
def NotMH (C : String) : Prop := C ≠ "java/lang/invoke/MethodHandle" ∧ C ≠ "java/lang/invoke/VarHandle"
def DeclW (x : MethodName) : Prop := Cond.declares x ∈ lw_tbl ∨ (Cond.instanceMethod x ∈ lw_all ∧ ∃ b L r, Cond.code x b L r ∈ lw_all)
def SRef (own : String) (idx : Nat) (g : MI) (n : Nat) : Prop := LinkW own idx g.1 ∧ Cond.static g.1 ∈ lw_all ∧ Cond.initialized g.1.cls ∈ lw_all ∧ CodeW g ∧ NotMH g.1.cls ∧ (parseMethodDescriptor g.1.desc).map (fun d => d.parameters.length) = some n
def VRef (own : String) (idx : Nat) (C : String) (g : MI) (n : Nat) : Prop := LinkW own idx g.1 ∧ Cond.instanceMethod g.1 ∈ lw_all ∧ Cond.selects C g.1 g.1 ∈ lw_all ∧ CodeW g ∧ NotMH g.1.cls ∧ (parseMethodDescriptor g.1.desc).map (fun d => d.parameters.length) = some n
def IRef (own : String) (idx : Nat) (g : MI) (n : Nat) : Prop := LinkW own idx g.1 ∧ Cond.instanceMethod g.1 ∈ lw_all ∧ Cond.code g.1 g.code g.maxL none ∈ lw_all ∧ g.1.name = "<init>" ∧ CodeW g ∧ NotMH g.1.cls ∧ (parseMethodDescriptor g.1.desc).map (fun d => d.parameters.length) = some n
def URef (own : String) (idx : Nat) (C owner : String) (x : MethodName) (g : MI) (n : Nat) : Prop := Cond.methodLink own idx x ∈ lw_all ∧ Cond.sameMethod x.cls owner x.name x.desc ∈ lw_all ∧ DeclW ⟨owner, x.name, x.desc⟩ ∧ Cond.selects C x g.1 ∈ lw_all ∧ Cond.instanceMethod g.1 ∈ lw_all ∧ CodeW g ∧ NotMH owner ∧ (parseMethodDescriptor x.desc).map (fun d => d.parameters.length) = some n
theorem par_len {y : MethodName} {n : Nat} (h : (parseMethodDescriptor y.desc).map (fun d => d.parameters.length) = some n) {as : List AV} (ha : as.length = n) : ∀ sig, parseMethodDescriptor y.desc = some sig → (as.map (cv w)).length = sig.parameters.length := by
  intro sig hs
  rw [hs] at h
  rw [List.length_map, ha]
  exact (Option.some.inj h).symm
theorem v_callS {n idx : Nat} (as : List AV) (hd : decode f.code pc = .ok (.invokestatic idx, 3)) (hr : SRef f.cls idx g n) (ha : as.length = n) (h1v : ∀ v ∈ as, oneV v) (hal : as.length ≤ g.maxL) (hdd : d' + 1 ≤ d) (hrm : 2 * rest.length + g.maxL ≤ 53)
    (K : V w d' g 0 (ent g as) [] S J (CallQ w d f pc ls rest Q)) : V w d f pc ls (as.reverse ++ rest) S J Q := by
  intro p l e R s m args below meth c H locs cells slots la h1 h2 h3 h4 h5 h6 h7 h8 T hT X
  subst hT
  obtain ⟨hl, hst, hini, hc, hno, hpar⟩ := hr
  have hts := hts_of (args := args) h1 h2.2.2.2.2.2.2.2.2
  obtain ⟨mk, hnamed⟩ : ∃ mk, s.methodNamed? g.1 = some mk := by
    rcases hc.2 with ⟨-, q⟩ | q
    · exact Cond.code_named (hts _ q)
    · obtain ⟨m9, -, -, q, -⟩ := Cond.codeWith_spec (hts _ q)
      exact ⟨m9, q⟩
  obtain ⟨methM, cM, hmethM, -, -, -, -, -, -, -, -, hsigM⟩ := code_at h1 h2.2.2.2.2.2.2.2.2 hc hnamed
  have hstatic : methM.isStatic = true := Cond.static_spec hnamed hmethM (hts _ hst)
  obtain ⟨kP, hkP, -⟩ := className_of_methodNamed hnamed
  have hinitP : kP.init = .initialized := Cond.initialized_spec (findClass_of_methodNamed hnamed) hkP (hts _ hini)
  have hstk : (F0 m pc la ((as.reverse ++ rest).map (cv w))).stack = (as.map (cv w)).reverse ++ rest.map (cv w) := by simp
  have hdg : decode c.code (F0 m pc la ((as.reverse ++ rest).map (cv w))).pc = .ok (.invokestatic idx, 3) := by rw [h2.2.1]; exact hd
  have key : ∃ vm₁, Stand p l e R s m args below meth c (T.setVm vm₁) locs cells slots ∧ ∀ target, (∀ acts, Steps p.tables e below (doInvoke e ((T.setVm vm₁).setTop (F0 m pc la (rest.map (cv w)))) acts mk (as.map (cv w)).toArray).1 target) → Steps p.tables e below (T.setTop (F0 m pc la ((as.reverse ++ rest).map (cv w)))) target := by
    rcases hl with hl | ⟨host, hl⟩
    · obtain ⟨vm₁, X₁, hstep₁⟩ := X.invokestatic h2.1 h2.2.2.2.2.2.1 (hts _ hl) hnamed hmethM hstatic hkP hinitP hno (g := F0 m pc la ((as.reverse ++ rest).map (cv w))) rfl (argsL := as.map (cv w)) (rest := rest.map (cv w)) (par_len hpar ha _ hsigM) hstk hdg
      exact ⟨vm₁, X₁, hstep₁⟩
    · obtain ⟨vm₁, X₁, hstep₁⟩ := X.invokestaticNest h2.1 h2.2.2.2.2.2.1 (va_Nw.use rfl (va_Nw.warmM h2.2.2.2.2.2.2.2.2 (h1.1 _ hl))) hnamed hmethM hstatic hkP hinitP hno (g := F0 m pc la ((as.reverse ++ rest).map (cv w))) rfl (argsL := as.map (cv w)) (rest := rest.map (cv w)) (par_len hpar ha _ hsigM) hstk hdg
      exact ⟨vm₁, X₁, hstep₁⟩
  obtain ⟨vm₁, X₁, hstep₁⟩ := key
  obtain ⟨t, st, fin⟩ := call_core (acts := []) (T := T.setVm vm₁) h1 h2 h3 h4 h5 h6 (fun v hv => h7 v (List.mem_append_right _ hv)) (fun v hv => h7 v (List.mem_append_left _ (List.mem_reverse.mpr hv))) h8 X₁ hd (X₁.named hnamed) hc h1v hal hdd hrm K
  exact ⟨t, hstep₁ _ fun acts => by rw [doInvoke_state]; exact st, fin⟩
theorem v_callV {n idx b t : Nat} {C : String} {T0 : u_T} {N : Nat} (as : List AV) (hd : decode f.code pc = .ok (.invokevirtual idx, 3)) (hr : VRef f.cls idx C g n) (ht : S.tg b = t) (hcl : clF t = some (C, T0, N)) (ha : as.length = n) (h1v : ∀ v ∈ as, oneV v) (hal : as.length + 1 ≤ g.maxL) (hdd : d' + 1 ≤ d) (hrm : 2 * rest.length + g.maxL ≤ 53)
    (K : V w d' g 0 (ent g (vR b :: as)) [] S J (CallQ w d f pc ls rest Q)) : V w d f pc ls (as.reverse ++ vR b :: rest) S J Q := by
  intro p l e R s m args below meth c H locs cells slots la h1 h2 h3 h4 h5 h6 h7 h8 T hT X
  subst hT
  obtain ⟨hl, hinst, hsel, hc, hno, hpar⟩ := hr
  have hts := hts_of (args := args) h1 h2.2.2.2.2.2.2.2.2
  obtain ⟨mk, methM, hnamed, hmethM, hstM, habM⟩ := Cond.instanceMethod_spec (hts _ hinst)
  obtain ⟨methM', cM, hmethM', -, -, -, -, -, -, -, -, hsigM⟩ := code_at h1 h2.2.2.2.2.2.2.2.2 hc hnamed
  cases hmethM.symm.trans hmethM'
  obtain ⟨c2, r2, m2, q1, q2, q3, q4, kP, hkP, hkPi⟩ := Cond.selects_spec (hts _ hsel)
  rw [← ht] at hcl
  obtain ⟨cellB, hcell, hcls, hvm, -⟩ := h4.2.2.2.2.2.1 b C T0 N hcl
  obtain ⟨-, hfc, -⟩ := u_Kn_moved h2.2.2.2.2.2.2.2.2.alike (h1.2.1 _ C T0 N hcl)
  rw [← hcls] at hfc
  cases hfc.symm.trans q1
  cases (State.methodFound?_of_named hnamed hno).symm.trans q2
  cases hnamed.symm.trans q3
  have hselP : selectMethod e.platform s.vm cellB.cls mk = .method mk := by rw [Launch.admits_selectMethod X.admits]; exact q4
  have hobj : ∀ k, cellB.vm ≠ .statics k := fun k q => by rw [hvm] at q; cases q
  have hstk : (F0 m pc la ((as.reverse ++ vR b :: rest).map (cv w))).stack = (as.map (cv w)).reverse ++ .ref (rho w b) :: rest.map (cv w) := by simp [cv]
  have hdg : decode c.code (F0 m pc la ((as.reverse ++ vR b :: rest).map (cv w))).pc = .ok (.invokevirtual idx, 3) := by rw [h2.2.1]; exact hd
  have key : ∃ vm₁, Stand p l e R s m args below meth c (T.setVm vm₁) locs cells slots ∧ ∀ target, (∀ acts, Steps p.tables e below (doInvoke e ((T.setVm vm₁).setTop (F0 m pc la (rest.map (cv w)))) acts mk ((vR b :: as).map (cv w)).toArray).1 target) → Steps p.tables e below (T.setTop (F0 m pc la ((as.reverse ++ vR b :: rest).map (cv w)))) target := by
    rcases hl with hl | ⟨host, hl⟩
    · obtain ⟨vm₁, X₁, hstep₁⟩ := X.invokevirtual h2.1 h2.2.2.2.2.2.1 (hts _ hl) hnamed hmethM hstM hkP hkPi hno (a := rho w b) (cell := cellB) hcell hobj hselP hmethM habM hkP hkPi (g := F0 m pc la ((as.reverse ++ vR b :: rest).map (cv w))) rfl (argsL := as.map (cv w)) (rest := rest.map (cv w)) (par_len hpar ha _ hsigM) hstk hdg
      exact ⟨vm₁, X₁, hstep₁⟩
    · obtain ⟨vm₁, X₁, hstep₁⟩ := X.invokevirtualNest h2.1 h2.2.2.2.2.2.1 (va_Nw.use rfl (va_Nw.warmM h2.2.2.2.2.2.2.2.2 (h1.1 _ hl))) hnamed hmethM hstM hkP hkPi hno (a := rho w b) (cell := cellB) hcell hobj hselP hmethM habM hkP hkPi (g := F0 m pc la ((as.reverse ++ vR b :: rest).map (cv w))) rfl (argsL := as.map (cv w)) (rest := rest.map (cv w)) (par_len hpar ha _ hsigM) hstk hdg
      exact ⟨vm₁, X₁, hstep₁⟩
  obtain ⟨vm₁, X₁, hstep₁⟩ := key
  obtain ⟨t, st, fin⟩ := call_core (acts := []) (T := T.setVm vm₁) (as := vR b :: as) h1 h2 h3 h4 h5 h6 (fun v hv => h7 v (List.mem_append_right _ (List.mem_cons_of_mem _ hv))) (List.forall_mem_cons.mpr ⟨trivial, fun v hv => h7 v (List.mem_append_left _ (List.mem_reverse.mpr hv))⟩) h8 X₁ hd (X₁.named hnamed) hc (List.forall_mem_cons.mpr ⟨trivial, h1v⟩) hal hdd hrm K
  exact ⟨t, hstep₁ _ fun acts => by rw [doInvoke_state]; exact st, fin⟩
theorem v_callU {n idx b t : Nat} {C owner : String} {x : MethodName} {T0 : u_T} {N : Nat} (as : List AV) (hd : decode f.code pc = .ok (.invokevirtual idx, 3)) (hr : URef f.cls idx C owner x g n) (ht : S.tg b = t) (hcl : clF t = some (C, T0, N)) (ha : as.length = n) (h1v : ∀ v ∈ as, oneV v) (hal : as.length + 1 ≤ g.maxL) (hdd : d' + 1 ≤ d) (hrm : 2 * rest.length + g.maxL ≤ 53)
    (K : V w d' g 0 (ent g (vR b :: as)) [] S J (CallQ w d f pc ls rest Q)) : V w d f pc ls (as.reverse ++ vR b :: rest) S J Q := by
  intro p l e R s m args below meth c H locs cells slots la h1 h2 h3 h4 h5 h6 h7 h8 T hT X
  subst hT
  obtain ⟨hl, hsame, hdecl, hsel, hinst, hc, hno, hpar⟩ := hr
  have hts := hts_of (args := args) h1 h2.2.2.2.2.2.2.2.2
  have hd0 : va_Decl s ⟨owner, x.name, x.desc⟩ := by
    rcases hdecl with q | ⟨q, b9, L9, r9, q2⟩
    · exact va_Decl.abs (va_Nw.warmD h2.2.2.2.2.2.2.2.2 (h1.1 _ q))
    · exact va_Decl.of (hts _ q) (hts _ q2)
  obtain ⟨r0, r, hn, hrm0, hstR, hsigR⟩ := hd0
  obtain ⟨cn, ck, r1, hcn, hck, hni, hf, hn1⟩ := Cond.sameMethod_found (hts _ hsame)
  cases hn.symm.trans hn1
  obtain ⟨mk, methM, hnamed, hmethM, -, habM⟩ := Cond.instanceMethod_spec (hts _ hinst)
  obtain ⟨c2, r2, m2, q1, q2, q3, q4, kP, hkP, hkPi⟩ := Cond.selects_spec (hts _ hsel)
  rw [← ht] at hcl
  obtain ⟨cellB, hcell, hcls, hvm, -⟩ := h4.2.2.2.2.2.1 b C T0 N hcl
  obtain ⟨-, hfc, -⟩ := u_Kn_moved h2.2.2.2.2.2.2.2.2.alike (h1.2.1 _ C T0 N hcl)
  rw [← hcls] at hfc
  cases hfc.symm.trans q1
  cases hf.symm.trans q2
  cases hnamed.symm.trans q3
  have hselP : selectMethod e.platform s.vm cellB.cls r0 = .method mk := by rw [Launch.admits_selectMethod X.admits]; exact q4
  have hobj : ∀ k, cellB.vm ≠ .statics k := fun k q => by rw [hvm] at q; cases q
  have hstk : (F0 m pc la ((as.reverse ++ vR b :: rest).map (cv w))).stack = (as.map (cv w)).reverse ++ .ref (rho w b) :: rest.map (cv w) := by simp [cv]
  have hdg : decode c.code (F0 m pc la ((as.reverse ++ vR b :: rest).map (cv w))).pc = .ok (.invokevirtual idx, 3) := by rw [h2.2.1]; exact hd
  obtain ⟨vm₁, X₁, hstep₁⟩ := X.invokevirtualUp h2.1 h2.2.2.2.2.2.1 (hts _ hl) (hts _ hsame) hno hn hrm0 hstR (a := rho w b) (cell := cellB) hcell hobj hselP hmethM habM hkP hkPi (g := F0 m pc la ((as.reverse ++ vR b :: rest).map (cv w))) rfl (argsL := as.map (cv w)) (rest := rest.map (cv w)) (par_len hpar ha _ hsigR) hstk hdg
  obtain ⟨t, st, fin⟩ := call_core (acts := []) (T := T.setVm vm₁) (as := vR b :: as) h1 h2 h3 h4 h5 h6 (fun v hv => h7 v (List.mem_append_right _ (List.mem_cons_of_mem _ hv))) (List.forall_mem_cons.mpr ⟨trivial, fun v hv => h7 v (List.mem_append_left _ (List.mem_reverse.mpr hv))⟩) h8 X₁ hd (X₁.named hnamed) hc (List.forall_mem_cons.mpr ⟨trivial, h1v⟩) hal hdd hrm K
  exact ⟨t, hstep₁ _ fun acts => by rw [doInvoke_state]; exact st, fin⟩
theorem v_callI {n idx b : Nat} (as : List AV) (hd : decode f.code pc = .ok (.invokespecial idx, 3)) (hr : IRef f.cls idx g n) (ha : as.length = n) (h1v : ∀ v ∈ as, oneV v) (hal : as.length + 1 ≤ g.maxL) (hdd : d' + 1 ≤ d) (hrm : 2 * rest.length + g.maxL ≤ 53)
    (K : V w d' g 0 (ent g (vR b :: as)) [] S J (CallQ w d f pc ls rest Q)) : V w d f pc ls (as.reverse ++ vR b :: rest) S J Q := by
  intro p l e R s m args below meth c H locs cells slots la h1 h2 h3 h4 h5 h6 h7 h8 T hT X
  subst hT
  obtain ⟨hl, hinst, hco, hy1, hc, hno, hpar⟩ := hr
  have hts := hts_of (args := args) h1 h2.2.2.2.2.2.2.2.2
  have hpl : e.platform.magicAccessors = ({} : Platform).magicAccessors := by rw [X.admits.platform]
  have hstk : (F0 m pc la ((as.reverse ++ vR b :: rest).map (cv w))).stack = (as.map (cv w)).reverse ++ .ref (rho w b) :: rest.map (cv w) := by simp [cv]
  have hdg : decode c.code (F0 m pc la ((as.reverse ++ vR b :: rest).map (cv w))).pc = .ok (.invokespecial idx, 3) := by rw [h2.2.1]; exact hd
  have key : ∃ mk vm₁, s.methodNamed? g.1 = some mk ∧ Stand p l e R s m args below meth c (T.setVm vm₁) locs cells slots ∧ ∀ target, (∀ acts, Steps p.tables e below (doInvoke e ((T.setVm vm₁).setTop (F0 m pc la (rest.map (cv w)))) acts mk ((vR b :: as).map (cv w)).toArray).1 target) → Steps p.tables e below (T.setTop (F0 m pc la ((as.reverse ++ vR b :: rest).map (cv w)))) target := by
    rcases hl with hl | ⟨host, hl⟩
    · obtain ⟨mk, methM, cM, kP, vm₁, hnamed, hmethM, hcodeM, -, hlocalsM, -, hkP, -, hW₁, hstep₁⟩ := Steps.initColdArgs (e := e) X.here h2.1 X.warmed hpl h2.2.2.2.2.2.1 hy1 hno (hts _ hl) (hts _ hinst) (hts _ hco) (f := F0 m pc la ((as.reverse ++ vR b :: rest).map (cv w))) rfl (par_len hpar ha) hstk hdg
      exact ⟨mk, vm₁, hnamed, X.noted hW₁, hstep₁⟩
    · obtain ⟨mk, methM, cM, kP, vm₁, hnamed, hmethM, hcodeM, -, hlocalsM, -, hkP, -, hW₁, hstep₁⟩ := Steps.initColdArgsNest (e := e) X.here h2.1 X.warmed hpl h2.2.2.2.2.2.1 hy1 hno (va_Nw.use rfl (va_Nw.warmM h2.2.2.2.2.2.2.2.2 (h1.1 _ hl))) (hts _ hinst) (hts _ hco) (f := F0 m pc la ((as.reverse ++ vR b :: rest).map (cv w))) rfl (par_len hpar ha) hstk hdg
      exact ⟨mk, vm₁, hnamed, X.noted hW₁, hstep₁⟩
  obtain ⟨mk, vm₁, hnamed, X₁, hstep₁⟩ := key
  obtain ⟨t, st, fin⟩ := call_core (acts := []) (T := T.setVm vm₁) (as := vR b :: as) h1 h2 h3 h4 h5 h6 (fun v hv => h7 v (List.mem_append_right _ (List.mem_cons_of_mem _ hv))) (List.forall_mem_cons.mpr ⟨trivial, fun v hv => h7 v (List.mem_append_left _ (List.mem_reverse.mpr hv))⟩) h8 X₁ hd (X₁.named hnamed) hc (List.forall_mem_cons.mpr ⟨trivial, h1v⟩) hal hdd hrm K
  exact ⟨t, hstep₁ _ fun acts => by rw [doInvoke_state]; exact st, fin⟩
end Calls9
