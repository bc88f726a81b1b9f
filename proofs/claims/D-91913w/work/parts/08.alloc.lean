/-! rules of V: making cells, constants, casts, switches -/
set_option maxRecDepth 100000
def alS (S : Sh) (t len sz : Nat) : Sh := (S.n + 1, S.sl + sz, fun a => if a = S.n then t else S.tg a, fun a => if a = S.n then len else S.ln a, S.rf)
section Alloc
variable {w : Wd} {d : Nat} {f : MI} {pc : Nat} {ls : List (Option AV)} {st : List AV} {S : Sh} {J : Jm} {Q : Out → Sh → Jm → Prop}
theorem alS_tg_ne {t len sz a : Nat} (h : a ≠ S.n) : (alS S t len sz).tg a = S.tg a := if_neg h
theorem alS_tg_self {t len sz : Nat} : (alS S t len sz).tg S.n = t := if_pos rfl
theorem alS_ln_ne {t len sz a : Nat} (h : a ≠ S.n) : (alS S t len sz).ln a = S.ln a := if_neg h
theorem alS_ln_self {t len sz : Nat} : (alS S t len sz).ln S.n = len := if_pos rfl
theorem RelM.alloc (h1 : Wok w) {H H' : Heap} (hM : RelM w S J H) {t len sz : Nat} (ht : t < 40) (hl : len < 2147483648) (hs : H'.size = H.size + 1) (hq : ∀ q, q < H.size → H'[q]? = H[q]?)
    (ho : CellO w (alS S t len sz) J H' S.n) (hA : CellA w (alS S t len sz) J H' S.n) : RelM w (alS S t len sz) J H' := by
  obtain ⟨m1, m2, m3, m4, m5, m6, m7, m8, m9, m10⟩ := hM
  have hlt : ∀ b, b ≠ S.n → (S.tg b ≠ 0) → rho w b < H.size := by
    intro b hb h0
    have := m3 b h0
    by_cases h : b < 64
    · unfold rho
      rw [if_pos h]
      have := h1.2.2.2.1 b h
      omega
    · rw [rho_ge (by omega)]
      omega
  have hav : ∀ b j, b ≠ S.n → av (alS S t len sz) J b j = av S J b j := by
    intro b j hb
    unfold av
    rw [alS_tg_ne hb]
    rfl
  refine ⟨?_, ?_, fun a ha => ?_, fun a ha => ?_, fun a => ?_, fun b => ?_, fun b => ?_, m8, fun b j hb => ?_, fun q hB => by rw [hq q (by omega)]; exact m10 q hB⟩
  · show H'.size + 64 = w.B + (S.n + 1)
    omega
  · show 64 ≤ S.n + 1
    omega
  · show a < S.n + 1
    by_cases h : a = S.n
    · omega
    · rw [alS_tg_ne h] at ha
      have := m3 a ha
      omega
  · rw [alS_tg_ne (by omega)]
    exact m4 a ha
  · by_cases h : a = S.n
    · rw [h, alS_ln_self]; exact hl
    · rw [alS_ln_ne h]; exact m5 a
  · by_cases hb : b = S.n
    · rw [hb]; exact ho
    · intro C T N hc
      rw [alS_tg_ne hb] at hc ⊢
      obtain ⟨cell, c1, c2, c3, c4⟩ := m6 b C T N hc
      have h0 : S.tg b ≠ 0 := (cl_good hc).2.2.2.2.1
      refine ⟨cell, by rw [hq _ (hlt b hb h0)]; exact c1, c2, c3, fun k hk => ?_⟩
      obtain ⟨v, v1, v2⟩ := c4 k hk
      refine ⟨v, v1, ?_⟩
      rw [hav b k hb]
      exact v2
  · by_cases hb : b = S.n
    · rw [hb]; exact hA
    · intro ty hc
      rw [alS_tg_ne hb] at hc ⊢
      obtain ⟨cell, c1, c2, c3, c4, c5, c6⟩ := m7 b ty hc
      have h0 : S.tg b ≠ 0 := (ar_le hc).1
      refine ⟨cell, by rw [hq _ (hlt b hb h0)]; exact c1, c2, c3, by rw [alS_ln_ne hb]; exact c4, c5, fun k hk => ?_⟩
      rw [alS_ln_ne hb] at hk
      rw [hav b k hb]
      exact c6 k hk
  · exact m9 b j (by have : S.n + 1 ≤ b := hb; omega)
theorem dflt_cv {ty : FieldType} (h : kdT ty ≠ 4) : defaultValue ty = cv w (if kdT ty = 0 then vI 0 else if kdT ty = 2 then vL 0 else vO none) := by
  cases ty <;> first | rfl | exact absurd rfl h
theorem rho_new {H : Heap} (hM : RelM w S J H) : rho w S.n = H.size := by
  rw [rho_ge hM.2.1]
  have := hM.1
  have := hM.2.1
  omega
theorem room_alloc {R : Room} {cells slots : Nat} (h3 : RoomOk d R cells slots S) {t len sz : Nat} (hn : S.n + 1 ≤ capN) (hs : S.sl + sz ≤ capS) : RoomOk d R (cells + 1) (slots + sz) (alS S t len sz) ∧ cells + 1 ≤ R.cells ∧ slots + sz ≤ R.slots := by
  obtain ⟨r1, r2, r3, r4, r5, r6⟩ := h3
  refine ⟨⟨r1, r2, hn, hs, ?_, ?_⟩, by omega, by omega⟩
  · show cells + 1 + (capN - (S.n + 1)) ≤ R.cells
    omega
  · show slots + sz + (capS - (S.sl + sz)) ≤ R.slots
    omega
theorem fin_alloc {s : State} {below : List Frame} {cells slots t len sz : Nat} {x : State} (h : Fin1 w s below (cells + 1) (slots + sz) (alS S t len sz) Q x) : Fin1 w s below cells slots S Q x := by
  obtain ⟨o, S', J', L, k, n, b1, b2, b3, b4, b5, b6, b7, b8⟩ := h
  have b6 : k + (S.n + 1) ≤ cells + 1 + S'.n := b6
  have b7 : n + (S.sl + sz) ≤ slots + sz + S'.sl := b7
  exact ⟨o, S', J', L, k, n, b1, b2, b3, b4, b5, by omega, by omega, b8⟩
theorem W.imp {p : Program} {l : Launch} {e : Env} {R : Room} {s : State} {m : MethodId} {args : Array Value} {below : List Frame} {meth : Method} {c : Code} {H : Heap} {locs : List Loc} {cells slots : Nat} {Q1 Q2 : State → Prop} {g : JFrame} (h : W p l e R s m args below meth c H locs cells slots Q1 g) (hq : ∀ t, Q1 t → Q2 t) : W p l e R s m args below meth c H locs cells slots Q2 g := by
  intro T hT X
  obtain ⟨t, a, b⟩ := h T hT X
  exact ⟨t, a, hq t b⟩
def NRef (own : String) (idx t n : Nat) : Prop := ∃ (C : String) (T : u_T) (N : Nat), clF t = some (C, T, N) ∧ Cond.classLink own idx C ∈ lw_all ∧ Cond.instantiable C n ∈ lw_all ∧ Cond.initialized C ∈ lw_all ∧ ∀ k, k < N → fk t k ≠ 4
theorem v_new {idx t n : Nat} (hd : decode f.code pc = .ok (.new idx, 3)) (hr : NRef f.cls idx t n) (hn : S.n + 1 ≤ capN) (hs : S.sl + n ≤ capS) (K : (∀ k, J S.n k = 0) → (∀ k, S.rf S.n k = none) → V w d f (pc + 3) ls (vR S.n :: st) (alS S t 0 n) J Q) : V w d f pc ls st S J Q := by
  intro p l e R s m args below meth c H locs cells slots la h1 h2 h3 h4 h5 h6 h7 h8
  obtain ⟨C, T, N, hcl, hlink, hins, hini, hk4⟩ := hr
  obtain ⟨g1, g2, g3, g4, g5, g6⟩ := cl_good hcl
  have hts := hts_of (args := args) h1 h2.2.2.2.2.2.2.2.2
  have hKn := u_Kn_moved h2.2.2.2.2.2.2.2.2.alike (h1.2.1 _ C T N hcl)
  obtain ⟨hrm, hc1, hs1⟩ := room_alloc (t := t) (len := 0) h3 hn hs
  have h9 := h4.2.2.2.2.2.2.2.2.1
  refine W.newcK h2.1 h2.2.1 h2.2.2.2.2.2.1 (hts _ hlink) (hts _ hins) (hts _ hini) rfl hd hc1 hs1 hKn.2.1 rfl (fun H' kC e1 e2 e3 e4 => ?_)
  have hb := u_born (tyF t) hts g1 hKn e1 e2 g2
  obtain ⟨cell, z1, z2, z3, z4⟩ := hb
  have hM : RelM w (alS S t 0 n) J H' := by
    refine h4.alloc h1 g6 (by omega) e3 e4 ?_ ?_
    · intro C2 T2 N2 hc2
      rw [alS_tg_self] at hc2
      cases hcl.symm.trans hc2
      rw [alS_tg_self, rho_new h4]
      refine ⟨cell, z1, z2, z3, fun k hk => ⟨_, z4 k hk, Or.inr ?_⟩⟩
      unfold av
      rw [alS_tg_self]
      have e9 : (alS S t 0 n).rf S.n k = none := (h9 S.n k (Nat.le_refl _)).2
      rw [e9, (h9 S.n k (Nat.le_refl _)).1]
      exact dflt_cv (hk4 k hk)
    · intro ty hty
      rw [alS_tg_self, g4] at hty
      cases hty
  have k := K (fun k => (h9 S.n k (Nat.le_refl _)).1) (fun k => (h9 S.n k (Nat.le_refl _)).2) p l e R s m args below meth c H' locs (cells + 1) (slots + n) la h1 h2 hrm hM h5 h6 (List.forall_mem_cons.mpr ⟨trivial, h7⟩) h8
  have e5 : (vR S.n :: st).map (cv w) = .ref H.size :: st.map (cv w) := by rw [List.map_cons, ← rho_new h4]; rfl
  rw [e5] at k
  exact k.imp fun t h => fin_alloc h
theorem v_newa {t : Nat} {n : Int} {atype : ArrayType} (hd : decode f.code pc = .ok (.newarray atype, 2)) (ht : arF t = some (newarray.typeOf atype)) (ht4 : t < 40) (hw : Cond.arrayClass (newarray.typeOf atype) ∈ lw_all) (hk : kdT (newarray.typeOf atype) ≠ 4) (h0 : 0 ≤ n) (hb : n.toNat * 8 ≤ 536870912) (hn : S.n + 1 ≤ capN) (hs : S.sl + n.toNat ≤ capS) (K : (∀ k, J S.n k = 0) → (∀ k, S.rf S.n k = none) → V w d f (pc + 2) ls (vR S.n :: st) (alS S t n.toNat n.toNat) J Q) : V w d f pc ls (vI n :: st) S J Q := by
  intro p l e R s m args below meth c H locs cells slots la h1 h2 h3 h4 h5 h6 h7 h8
  have hz : in32 n := h7 (vI n) List.mem_cons_self
  have hts := hts_of (args := args) h1 h2.2.2.2.2.2.2.2.2
  obtain ⟨hrm, hc1, hs1⟩ := room_alloc (t := t) (len := n.toNat) h3 hn hs
  have h9 := h4.2.2.2.2.2.2.2.2.1
  have hcb : componentBytes (newarray.typeOf atype) ≤ 8 := by cases atype <;> decide
  refine W.newa h2.1 h2.2.1 (hts _ hw) rfl hd (n := Int32.ofInt n) rfl (by rw [n_0, n_lt hz in_0]; omega) (by rw [n_clamp hz]; exact Nat.le_trans (Nat.mul_le_mul_left _ hcb) hb) hc1 (by rw [n_clamp hz]; exact hs1) (fun cA kA comp z1 z2 z3 => ?_)
  rw [n_clamp hz]
  have hcA : cA = w.dC t := by
    have q := (h1.2.2.1 t _ ht4 ht).2
    have q' := q.moved h2.2.2.2.2.2.2.2.2.alike
    have q2 : s.vm.findClass ("[" ++ (newarray.typeOf atype).toString) = some (w.dC t) := by
      cases atype <;> exact q'
    exact Option.some.inj (z1.symm.trans q2)
  have hM : RelM w (alS S t n.toNat n.toNat) J (H.push { cls := cA, slots := Array.replicate n.toNat (defaultValue (newarray.typeOf atype)), vm := .none }) := by
    refine h4.alloc h1 ht4 (by have := hz.2; omega) (by rw [Array.size_push]) (fun q hq => by rw [Array.getElem?_push, if_neg (Nat.ne_of_lt hq)]) ?_ ?_
    · intro C2 T2 N2 hc2
      rw [alS_tg_self, (ar_le ht).2] at hc2
      cases hc2
    · intro ty hty
      rw [alS_tg_self] at hty
      cases ht.symm.trans hty
      rw [alS_tg_self, alS_ln_self, rho_new h4]
      refine ⟨_, Array.getElem?_push_size, ?_, (fun q => by cases q), by simp, fun _ => hcA, fun j hj => ?_⟩
      · have h := (h1.2.2.1 t _ ht4 ht).1 n.toNat (fun _ => defaultValue (newarray.typeOf atype))
        rw [← hcA, ← arrV_new] at h
        exact h
      · unfold av fk
        rw [alS_tg_self, ar_ty ht]
        have e9 : (alS S t n.toNat n.toNat).rf S.n j = none := (h9 S.n j (Nat.le_refl _)).2
        rw [e9, (h9 S.n j (Nat.le_refl _)).1, ← dflt_cv hk]
        simp [hj]
  have k := K (fun k => (h9 S.n k (Nat.le_refl _)).1) (fun k => (h9 S.n k (Nat.le_refl _)).2) p l e R s m args below meth c _ locs (cells + 1) (slots + n.toNat) la h1 h2 hrm hM h5 h6 (List.forall_mem_cons.mpr ⟨trivial, fun u hu => h7 u (List.mem_cons_of_mem _ hu)⟩) h8
  have e5 : (vR S.n :: st).map (cv w) = .ref H.size :: st.map (cv w) := by rw [List.map_cons, ← rho_new h4]; rfl
  rw [e5] at k
  exact k.imp fun t h => fin_alloc h
/-- Object's constructor -/
theorem v_objInit {idx a : Nat} (hd : decode f.code pc = .ok (.invokespecial idx, 3)) (hl : Cond.methodLink f.cls idx Lib.objectInit ∈ lw_all) (hi : Cond.instanceMethod Lib.objectInit ∈ lw_all) (hc : Cond.code Lib.objectInit ⟨#[0xb1]⟩ 1 none ∈ lw_all) (hdd : 1 ≤ d) (hrm : 2 * st.length ≤ 40) (K : V w d f (pc + 3) ls st S J Q) : V w d f pc ls (vR a :: st) S J Q := by
  intro p l e R s m args below meth c H locs cells slots la h1 h2 h3 h4 h5 h6 h7 h8
  have hts := hts_of (args := args) h1 h2.2.2.2.2.2.2.2.2
  have hcs := cat_sum w st
  have hr1 := h3.1
  have hr2 := h3.2.1
  exact W.objInit h2.1 h2.2.1 h2.2.2.2.2.2.1 (hts _ hl) (hts _ hi) (hts _ hc) rfl (by show la.size = _; rw [h5.1, h6, h2.2.2.1]) rfl hd (by omega) (by show 2 * 0 + _ + 12 ≤ _; omega) (K p l e R s m args below meth c H locs cells slots la h1 h2 h3 h4 h5 h6 (fun u hu => h7 u (List.mem_cons_of_mem _ hu)) h8)
theorem v_ldc {idx : Nat} {z : Int} {x : Int32} (hd : decode f.code pc = .ok (.ldc idx, 2)) (hw : Cond.constant f.cls idx x ∈ lw_all) (hx : x.toInt = z) (K : V w d f (pc + 2) ls (vI z :: st) S J Q) : V w d f pc ls st S J Q := by
  intro p l e R s m args below meth c H locs cells slots la h1 h2 h3 h4 h5 h6 h7 h8
  have hts := hts_of (args := args) h1 h2.2.2.2.2.2.2.2.2
  subst hx
  have k := K p l e R s m args below meth c H locs cells slots la h1 h2 h3 h4 h5 h6 (List.forall_mem_cons.mpr ⟨in_toInt x, h7⟩) h8
  simp only [List.map_cons, cv, n_of] at k
  exact lv_ldc h2.1 h2.2.1 h2.2.2.2.2.2.1 (hts _ hw) hd k
theorem v_ldcw {idx : Nat} {z : Int} {x : Int32} (hd : decode f.code pc = .ok (.ldc_w idx, 3)) (hw : Cond.constant f.cls idx x ∈ lw_all) (hx : x.toInt = z) (K : V w d f (pc + 3) ls (vI z :: st) S J Q) : V w d f pc ls st S J Q := by
  intro p l e R s m args below meth c H locs cells slots la h1 h2 h3 h4 h5 h6 h7 h8
  have hts := hts_of (args := args) h1 h2.2.2.2.2.2.2.2.2
  subst hx
  have k := K p l e R s m args below meth c H locs cells slots la h1 h2 h3 h4 h5 h6 (List.forall_mem_cons.mpr ⟨in_toInt x, h7⟩) h8
  simp only [List.map_cons, cv, n_of] at k
  exact lv_ldcw h2.1 h2.2.1 h2.2.2.2.2.2.1 (hts _ hw) hd k
theorem v_tableOut {dflt lo hi : Int} {offs : Array Int} {len : Nat} {x : Int} (tgt : Nat) (hd : decode f.code pc = .ok (.tableswitch dflt lo hi offs, len)) (hx : x < lo ∨ hi < x) (ht : (pc : Int) + dflt = (tgt : Int)) (K : V w d f tgt ls st S J Q) : V w d f pc ls (vI x :: st) S J Q := by
  intro p l e R s m args below meth c H locs cells slots la h1 h2 h3 h4 h5 h6 h7 h8
  have hz : in32 x := h7 (vI x) List.mem_cons_self
  exact lv_tableOut h2.1 h2.2.1 hd (by rw [n_toInt hz]; exact hx) ht (K p l e R s m args below meth c H locs cells slots la h1 h2 h3 h4 h5 h6 (fun u hu => h7 u (List.mem_cons_of_mem _ hu)) h8)
theorem v_tableIn {dflt lo hi : Int} {offs : Array Int} {len : Nat} {x off : Int} (tgt : Nat) (hd : decode f.code pc = .ok (.tableswitch dflt lo hi offs, len)) (hx1 : lo ≤ x) (hx2 : x ≤ hi) (ho : offs[(x - lo).toNat]? = some off) (ht : (pc : Int) + off = (tgt : Int)) (K : V w d f tgt ls st S J Q) : V w d f pc ls (vI x :: st) S J Q := by
  intro p l e R s m args below meth c H locs cells slots la h1 h2 h3 h4 h5 h6 h7 h8
  have hz : in32 x := h7 (vI x) List.mem_cons_self
  exact lv_tableIn h2.1 h2.2.1 hd (by rw [n_toInt hz]; omega) (by rw [n_toInt hz]; omega) (by rw [n_toInt hz]; exact ho) ht (K p l e R s m args below meth c H locs cells slots la h1 h2 h3 h4 h5 h6 (fun u hu => h7 u (List.mem_cons_of_mem _ hu)) h8)
theorem n_toL {z : Int} (h : in32 z) : (Int64.ofInt z).toInt = z := Int64.toInt_ofInt_of_le (by have := h.1; omega) (by have := h.2; omega)
theorem v_lcmp {x y : Int} (hd : decode f.code pc = .ok (.lcmp, 1)) (K : ∀ r : Int, (r = 0 ↔ x = y) → in32 r → V w d f (pc + 1) ls (vI r :: st) S J Q) : V w d f pc ls (vL y :: vL x :: st) S J Q := by
  intro p l e R s m args below meth c H locs cells slots la h1 h2 h3 h4 h5 h6 h7 h8
  have hy : in32 y := h7 (vL y) List.mem_cons_self
  have hx : in32 x := h7 (vL x) (List.mem_cons_of_mem _ List.mem_cons_self)
  have e1 : (lg_cmp (Int64.ofInt x) (Int64.ofInt y)).toInt = 0 ↔ x = y := by
    have hlt : Int64.ofInt y < Int64.ofInt x ↔ y < x := by rw [Int64.lt_iff_toInt_lt, n_toL hx, n_toL hy]
    have heq : Int64.ofInt x = Int64.ofInt y ↔ x = y := by
      constructor
      · intro h
        have := congrArg Int64.toInt h
        rwa [n_toL hx, n_toL hy] at this
      · intro h; rw [h]
    unfold lg_cmp
    split
    · rename_i q
      have := hlt.mp q
      constructor
      · intro h; exact absurd h (by decide)
      · intro h; omega
    · rename_i q
      split
      · rename_i q2
        constructor
        · intro _; exact heq.mp q2
        · intro _; decide
      · rename_i q2
        constructor
        · intro h; exact absurd h (by decide)
        · intro h; exact absurd (heq.mpr h) q2
  have k := K (lg_cmp (Int64.ofInt x) (Int64.ofInt y)).toInt e1 (in_toInt _) p l e R s m args below meth c H locs cells slots la h1 h2 h3 h4 h5 h6 (List.forall_mem_cons.mpr ⟨in_toInt _, fun u hu => h7 u (List.mem_cons_of_mem _ (List.mem_cons_of_mem _ hu))⟩) h8
  simp only [List.map_cons, cv, n_of] at k
  exact W.lcmp h2.1 h2.2.1 hd k
end Alloc
