/-! a String constant by ldc_w -/
set_option maxRecDepth 100000
theorem ldcwStr {p : Program} {l : Launch} {e : Env} {R : Room} {s : State} {m : MethodId} {args : Array Value} {below : List Frame} {meth : Method} {c : Code} {T : State} {locs : List Loc} {cells slots : Nat}
    (X : Stand p l e R s m args below meth c T locs cells slots) (hexec : p.tables.exec = Jvm.exec) {own text : String} {index : Nat} {a : Addr} (hown : s.vm.findClass own = some m.cls)
    (hconst : (Cond.stringRef own index text).before args s = true) (hev : (Term.string own index).eval args s none [] s = some (.ref a)) {g : JFrame} (hg : g.method = m) (hdg : decode c.code g.pc = .ok (.ldc_w index, 3)) :
    ∀ target, Steps p.tables e below (T.setTop { g with pc := g.pc + 3, stack := .ref a :: g.stack }) target → Steps p.tables e below (T.setTop g) target := by
  obtain ⟨k, cf, i, a', hk, hcf, hcp, -, hr, hev'⟩ := Cond.stringRef_spec hown hconst
  cases hev.symm.trans hev'
  obtain ⟨k', hk', he⟩ := X.warmed.alike.2.2 _ _ hk
  have hr' : k'.resolved[index]? = some (some (.string a)) := by
    rcases X.warmed.entry hk hk' index with h | ⟨h, -⟩
    · rw [h]; exact hr
    · rw [hr] at h; cases h
  intro target hrest
  subst hg
  jvm_step X.here [hexec, hdg, ldc_w.wp_string (e := e) (s := T) (f := g) X.here.top hk' (by rw [he]; exact hcf) hcp hr']
  exact hrest
theorem v_ldcSw {w : Wd} {d : Nat} {f : MI} {pc : Nat} {ls : List (Option AV)} {st : List AV} {S : Sh} {J : Jm} {Q : Out → Sh → Jm → Prop} {i idx : Nat} {tx : String} {bs : List Int} (hd : decode f.code pc = .ok (.ldc_w idx, 3)) (hs : strT[i]? = some (f.cls, idx, tx, bs)) (K : V w d f (pc + 3) ls (vR (2 * i) :: st) S J Q) : V w d f pc ls st S J Q := by
  intro p l e R s m args below meth c H locs cells slots la h1 h2 h3 h4 h5 h6 h7 h8
  have hk := h1.2.2.2.2.1 _ _ _ _ _ hs
  have kk := K p l e R s m args below meth c H locs cells slots la h1 h2 h3 h4 h5 h6 (List.forall_mem_cons.mpr ⟨trivial, h7⟩) h8
  have e5 : (vR (2 * i) :: st).map (cv w) = .ref (w.old (2 * i)) :: st.map (cv w) := by
    rw [List.map_cons, ← rho_s0 hs]
    rfl
  rw [e5] at kk
  have hZ := vk_R.warm h2.2.2.2.2.2.2.2.2 hk.1
  intro T hT X
  obtain ⟨t, a1, b1⟩ := kk T hT X
  exact ⟨t, ldcwStr X h2.1 h2.2.2.2.2.2.1 (text := tx) (a := w.old (2 * i)) hZ.1 hZ.2 (g := F0 m pc la (st.map (cv w))) rfl (by rw [h2.2.1]; exact hd) t a1, b1⟩
