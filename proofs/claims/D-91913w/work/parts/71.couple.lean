/-! the coupling: GridRoom's memory tells the same as the model's -/
set_option maxRecDepth 100000
/-- gone (GridRoom) and went (model) -/
def ToldG (g v : Int) : Prop := (g = 100001 ∧ v = 1000000) ∨ (g = v ∧ v ≤ 100000)
def whX (z : Int) : Int := if z = 7 then -1 else z
/-- a row of signs -/
def RowX (S : Sh) (J : Jm) (r : Nat) (σ : Jm) (q : Nat) : Prop := 365 ≤ r ∧ S.tg r = 32 ∧ (S.ln r : Int) = σ 317 q ∧ ∀ i, i < S.ln r → J r i = σ 318 (6 * q + i)
/-- rows of a tablet -/
def WordX (S : Sh) (J : Jm) (W : Nat) (σ : Jm) (t : Nat) : Prop := 365 ≤ W ∧ S.tg W = 36 ∧ (S.ln W : Int) = σ 316 t ∧ ∀ u, u < S.ln W → ∃ r, S.rf W u = some r ∧ RowX S J r σ (8 * t + u)
def TabX (S : Sh) (J : Jm) (o : Nat) (σ : Jm) (t : Nat) : Prop := 365 ≤ o ∧ S.tg o = 7 ∧ J o 0 = σ 314 t ∧ ToldG (J o 1) (σ 315 t) ∧ ∃ W, S.rf o 2 = some W ∧ WordX S J W σ t
def ClX (S : Sh) (J : Jm) (o : Nat) (σ : Jm) (x : Nat) : Prop := 365 ≤ o ∧ ((σ 321 x < 2 ∧ S.tg o = 15 ∧ J o 0 = σ 321 x ∧ J o 1 = whX (σ 322 x) ∧ J o 2 = σ 323 x ∧ J o 3 = σ 324 x) ∨ (σ 321 x = 2 ∧ S.tg o = 13 ∧ J o 0 = σ 322 x ∧ J o 1 = σ 323 x) ∨ (σ 321 x = 3 ∧ S.tg o = 14 ∧ J o 0 = σ 322 x))
/-- clauses of a text -/
def ClsX (S : Sh) (J : Jm) (l : Nat) (cs : List Nat) (σ : Jm) (t : Nat) : Prop := 365 ≤ l ∧ LsAt S J l cs ∧ (cs.length : Int) = σ 320 t ∧ ∀ c, c < cs.length → ClX S J (cs.getD c 0) σ (12 * t + c)
def RulX (S : Sh) (J : Jm) (o : Nat) (σ : Jm) (t : Nat) : Prop := 365 ≤ o ∧ S.tg o = 2 ∧ J o 1 = σ 319 t ∧ ∃ l cs, S.rf o 0 = some l ∧ ClsX S J l cs σ t
def ShrX (S : Sh) (J : Jm) (o : Nat) (σ : Jm) (k : Nat) : Prop := 365 ≤ o ∧ S.tg o = 16 ∧ J o 0 = σ 337 k ∧ ToldG (J o 1) (σ 338 k) ∧ J o 2 = σ 333 k ∧ J o 3 = σ 334 k ∧ J o 4 = σ 335 k ∧ J o 5 = σ 336 k
/-- letters of a name -/
def LetX (S : Sh) (J : Jm) (b : Nat) (σ : Jm) (n : Nat) : Prop := 365 ≤ b ∧ S.tg b = 33 ∧ (S.ln b : Int) = σ 348 n ∧ ∀ i, i < S.ln b → J b i = σ 349 (8 * n + i)
def NamX (S : Sh) (J : Jm) (o : Nat) (σ : Jm) (n : Nat) : Prop := 365 ≤ o ∧ S.tg o = 17 ∧ J o 0 = σ 351 n ∧ ToldG (J o 1) (σ 352 n) ∧ J o 2 = σ 350 n ∧ ∃ b, S.rf o 3 = some b ∧ LetX S J b σ n
/-- two lists have not one row; their rows lie outside the view -/
def InjL (S : Sh) : Prop := (∀ l l' A, S.tg l = 24 → S.tg l' = 24 → S.rf l 1 = some A → S.rf l' 1 = some A → l = l') ∧ ∀ l A, S.tg l = 24 → S.rf l 1 = some A → A < 84 ∨ 365 ≤ A
/-- numbers and fixed arrays -/
def NumX (J : Jm) (σ : Jm) : Prop := J 64 0 = σ 313 1 ∧ J 64 12 = σ 313 25 ∧ J 64 15 = σ 313 16 ∧ J 64 16 = σ 313 75 ∧ J 64 17 = σ 313 23 ∧ J 73 1 = 0 ∧
  (∀ h, h < 4 → J 76 h = σ 326 h) ∧ (∀ k : Nat, (k : Int) < σ 313 25 → J 77 k = σ 327 k ∧ J 78 k = σ 328 k ∧ J 79 k = σ 329 k ∧ J 80 k = σ 330 k ∧ J 81 k = σ 331 k) ∧ (∀ k : Nat, (k : Int) < σ 313 16 → J 82 k = σ 325 k) ∧ (∀ k : Nat, (k : Int) < σ 313 75 → J 83 k = σ 363 k)
def TabsX (S : Sh) (J : Jm) (ts : List Nat) (σ : Jm) : Prop := LsAt S J 65 ts ∧ (ts.length : Int) = σ 313 2 ∧ ts.Nodup ∧ ∀ t, t < ts.length → TabX S J (ts.getD t 0) σ t
def RulsX (S : Sh) (J : Jm) (rs : List Nat) (σ : Jm) : Prop := LsAt S J 67 rs ∧ (rs.length : Int) = σ 313 8 ∧ ∀ t, t < rs.length → RulX S J (rs.getD t 0) σ t
def ShrsX (S : Sh) (J : Jm) (ss : List Nat) (σ : Jm) : Prop := LsAt S J 69 ss ∧ (ss.length : Int) = σ 313 32 ∧ ss.Nodup ∧ ∀ k, k < ss.length → ShrX S J (ss.getD k 0) σ k
def NamsX (S : Sh) (J : Jm) (ns : List Nat) (σ : Jm) : Prop := LsAt S J 71 ns ∧ (ns.length : Int) = σ 313 55 ∧ ns.Nodup ∧ ∀ n, n < ns.length → NamX S J (ns.getD n 0) σ n
def CpX (S : Sh) (J : Jm) (σ : Jm) : Prop := InjL S ∧ NumX J σ ∧ LsAt S J 74 [] ∧ (∃ ts, TabsX S J ts σ) ∧ (∃ rs, RulsX S J rs σ) ∧ (∃ ss, ShrsX S J ss σ) ∧ ∃ ns, NamsX S J ns σ
/-- a question: only the view, other scratch and new cells change -/
def XKp (S : Sh) (J : Jm) (S' : Sh) (J' : Jm) : Prop := Lay S' ∧ Ex S S' ∧ (∀ a k, a < S.n → (a < 84 ∨ 313 ≤ a) → J' a k = J a k ∧ S'.rf a k = S.rf a k) ∧ ∀ a, S.n ≤ a → S'.tg a ≠ 24
theorem XKp.same {S : Sh} {J J' : Jm} (h : Lay S) (hs : Shp S) (hJ : ∀ a k, (a < 84 ∨ 313 ≤ a) → J' a k = J a k) : XKp S J S J' := ⟨h, Ex.rfl', fun a k _ q => ⟨hJ a k q, rfl⟩, fun a ha e => by rw [hs a ha] at e; cases e⟩
theorem XKp.trans {S S1 S2 : Sh} {J J1 J2 : Jm} (h : XKp S J S1 J1) (h2 : XKp S1 J1 S2 J2) : XKp S J S2 J2 := ⟨h2.1, h.2.1.trans h2.2.1, fun a k ha q => by
    have q1 := h.2.2.1 a k ha q
    have q2 := h2.2.2.1 a k (Nat.lt_of_lt_of_le ha h.2.1.1) q
    exact ⟨q2.1.trans q1.1, q2.2.trans q1.2⟩, fun a ha e => by
    rcases Nat.lt_or_ge a S1.n with q | q
    · rw [(h2.2.1.2.2 a q).1] at e
      exact h.2.2.2 a ha e
    · exact h2.2.2.2 a q e⟩
section Frame
variable {S S' : Sh} {J J' : Jm} {σ : Jm}
theorem XKp.obj (h : XKp S J S' J') (hs : Shp S) {o t : Nat} (ho : 365 ≤ o ∨ o < 84) (ht : S.tg o = t) (h0 : t ≠ 0) : S'.tg o = t ∧ S'.ln o = S.ln o ∧ (∀ k, J' o k = J o k) ∧ ∀ k, S'.rf o k = S.rf o k := by
  have hlt := hs.lt ht h0
  have q : o < 84 ∨ 313 ≤ o := by omega
  exact ⟨h.2.1.tg hs ht h0, (h.2.1.2.2 o hlt).2, fun k => (h.2.2.1 o k hlt q).1, fun k => (h.2.2.1 o k hlt q).2⟩
theorem LsAt.xkp (h : XKp S J S' J') (hs : Shp S) {l : Nat} {es : List Nat} (hl : 365 ≤ l ∨ l < 84) (hI : InjL S) (a : LsAt S J l es) : LsAt S' J' l es := by
  obtain ⟨h1, h2, h3, A, hA, tA, h5, h6, h7⟩ := a
  obtain ⟨o1, o2, o3, o4⟩ := h.obj hs hl h1 (by decide)
  have hA2 := hI.2 l A h1 hA
  obtain ⟨p1, p2, p3, p4⟩ := h.obj hs (by omega) tA (by decide)
  refine ⟨o1, by rw [o3]; exact h2, by rw [o3]; exact h3, A, by rw [o4]; exact hA, p1, by rw [p2]; exact h5, by rw [p2]; exact h6, fun i hi => ⟨by rw [p4]; exact (h7 i hi).1, ((h7 i hi).2).ex h.2.1 hs⟩⟩
theorem RowX.xkp (h : XKp S J S' J') (hs : Shp S) {r q : Nat} (a : RowX S J r σ q) : RowX S' J' r σ q := by
  obtain ⟨h1, h2, h3, h4⟩ := a
  obtain ⟨o1, o2, o3, o4⟩ := h.obj hs (.inl h1) h2 (by decide)
  exact ⟨h1, o1, by rw [o2]; exact h3, fun i hi => by rw [o3]; exact h4 i (by rw [← o2]; exact hi)⟩
theorem WordX.xkp (h : XKp S J S' J') (hs : Shp S) {W t : Nat} (a : WordX S J W σ t) : WordX S' J' W σ t := by
  obtain ⟨h1, h2, h3, h4⟩ := a
  obtain ⟨o1, o2, o3, o4⟩ := h.obj hs (.inl h1) h2 (by decide)
  refine ⟨h1, o1, by rw [o2]; exact h3, fun u hu => ?_⟩
  obtain ⟨r, e, x⟩ := h4 u (by rw [← o2]; exact hu)
  exact ⟨r, by rw [o4]; exact e, x.xkp h hs⟩
theorem TabX.xkp (h : XKp S J S' J') (hs : Shp S) {o t : Nat} (a : TabX S J o σ t) : TabX S' J' o σ t := by
  obtain ⟨h1, h2, h3, h4, W, h5, h6⟩ := a
  obtain ⟨o1, o2, o3, o4⟩ := h.obj hs (.inl h1) h2 (by decide)
  exact ⟨h1, o1, by rw [o3]; exact h3, by rw [o3]; exact h4, W, by rw [o4]; exact h5, h6.xkp h hs⟩
theorem ClX.xkp (h : XKp S J S' J') (hs : Shp S) {o x : Nat} (a : ClX S J o σ x) : ClX S' J' o σ x := by
  obtain ⟨h1, h2⟩ := a
  refine ⟨h1, ?_⟩
  rcases h2 with ⟨a1, a2, a3⟩ | ⟨a1, a2, a3⟩ | ⟨a1, a2, a3⟩
  · obtain ⟨o1, o2, o3, o4⟩ := h.obj hs (.inl h1) a2 (by decide)
    exact .inl ⟨a1, o1, by simp only [o3]; exact a3⟩
  · obtain ⟨o1, o2, o3, o4⟩ := h.obj hs (.inl h1) a2 (by decide)
    exact .inr (.inl ⟨a1, o1, by simp only [o3]; exact a3⟩)
  · obtain ⟨o1, o2, o3, o4⟩ := h.obj hs (.inl h1) a2 (by decide)
    exact .inr (.inr ⟨a1, o1, by simp only [o3]; exact a3⟩)
theorem ClsX.xkp (h : XKp S J S' J') (hs : Shp S) {l t : Nat} {cs : List Nat} (hI : InjL S) (a : ClsX S J l cs σ t) : ClsX S' J' l cs σ t := ⟨a.1, a.2.1.xkp h hs (.inl a.1) hI, a.2.2.1, fun c hc => (a.2.2.2 c hc).xkp h hs⟩
theorem RulX.xkp (h : XKp S J S' J') (hs : Shp S) {o t : Nat} (hI : InjL S) (a : RulX S J o σ t) : RulX S' J' o σ t := by
  obtain ⟨h1, h2, h3, l, cs, h5, h6⟩ := a
  obtain ⟨o1, o2, o3, o4⟩ := h.obj hs (.inl h1) h2 (by decide)
  exact ⟨h1, o1, by rw [o3]; exact h3, l, cs, by rw [o4]; exact h5, h6.xkp h hs hI⟩
theorem ShrX.xkp (h : XKp S J S' J') (hs : Shp S) {o k : Nat} (a : ShrX S J o σ k) : ShrX S' J' o σ k := by
  obtain ⟨h1, h2, h3⟩ := a
  obtain ⟨o1, o2, o3, o4⟩ := h.obj hs (.inl h1) h2 (by decide)
  exact ⟨h1, o1, by simp only [o3]; exact h3⟩
theorem LetX.xkp (h : XKp S J S' J') (hs : Shp S) {b n : Nat} (a : LetX S J b σ n) : LetX S' J' b σ n := by
  obtain ⟨h1, h2, h3, h4⟩ := a
  obtain ⟨o1, o2, o3, o4⟩ := h.obj hs (.inl h1) h2 (by decide)
  exact ⟨h1, o1, by rw [o2]; exact h3, fun i hi => by rw [o3]; exact h4 i (by rw [← o2]; exact hi)⟩
theorem NamX.xkp (h : XKp S J S' J') (hs : Shp S) {o n : Nat} (a : NamX S J o σ n) : NamX S' J' o σ n := by
  obtain ⟨h1, h2, h3, h4, h5, b, h6, h7⟩ := a
  obtain ⟨o1, o2, o3, o4⟩ := h.obj hs (.inl h1) h2 (by decide)
  exact ⟨h1, o1, by rw [o3]; exact h3, by rw [o3]; exact h4, by rw [o3]; exact h5, b, by rw [o4]; exact h6, h7.xkp h hs⟩
theorem InjL.xkp (h : XKp S J S' J') (hs : Shp S) (a : InjL S) : InjL S' := by
  have back : ∀ l, S'.tg l = 24 → S.tg l = 24 := fun l e => by
    rcases Nat.lt_or_ge l S.n with q | q
    · rw [(h.2.1.2.2 l q).1] at e; exact e
    · exact absurd e (h.2.2.2 l q)
  have hL := h.1
  have rng : ∀ l, S'.tg l = 24 → l < 84 ∨ 313 ≤ l := fun l e => by
    rcases Nat.lt_or_ge l 84 with q | q
    · exact .inl q
    · rcases Nat.lt_or_ge l 313 with q2 | q2
      · exfalso
        have key : ∀ l, l < 313 → 84 ≤ l → (88 ≤ l ∧ l < 280) ∨ ∃ x ∈ layT, x.1 = l ∧ x.2.1 ≠ 24 := by decide +kernel
        rcases key l q2 q with ⟨k1, k2⟩ | ⟨x, hx, k1, k2⟩
        · have := (hL.2.2.2.1 (l - 88) (by omega)).2.1
          rw [show 88 + (l - 88) = l by omega, e] at this
          cases this
        · have := (hL.2.1 x hx).1
          rw [k1, e] at this
          exact k2 this.symm
      · exact .inr q2
  have rf : ∀ l, S'.tg l = 24 → S'.rf l 1 = S.rf l 1 := fun l e => (h.2.2.1 l 1 (hs.lt (back l e) (by decide)) (rng l e)).2
  exact ⟨fun l l' A e1 e2 r1 r2 => a.1 l l' A (back l e1) (back l' e2) (by rw [← rf l e1]; exact r1) (by rw [← rf l' e2]; exact r2), fun l A e1 r1 => a.2 l A (back l e1) (by rw [← rf l e1]; exact r1)⟩
theorem CpX.xkp (h : XKp S J S' J') (hs : Shp S) (hL : Lay S) (a : CpX S J σ) : CpX S' J' σ := by
  obtain ⟨hI, hN, h0, ⟨ts, hT⟩, ⟨rs, hR⟩, ⟨ss, hS⟩, ns, hM⟩ := a
  have hn := hL.1
  have fx : ∀ a k, a < 84 → J' a k = J a k := fun a k q => (h.2.2.1 a k (by omega) (.inl q)).1
  refine ⟨hI.xkp h hs, ?_, h0.xkp h hs (.inr (by decide)) hI, ⟨ts, hT.1.xkp h hs (.inr (by decide)) hI, hT.2.1, hT.2.2.1, fun t ht => (hT.2.2.2 t ht).xkp h hs⟩, ⟨rs, hR.1.xkp h hs (.inr (by decide)) hI, hR.2.1, fun t ht => (hR.2.2 t ht).xkp h hs hI⟩, ⟨ss, hS.1.xkp h hs (.inr (by decide)) hI, hS.2.1, hS.2.2.1, fun t ht => (hS.2.2.2 t ht).xkp h hs⟩, ns, hM.1.xkp h hs (.inr (by decide)) hI, hM.2.1, hM.2.2.1, fun t ht => (hM.2.2.2 t ht).xkp h hs⟩
  unfold NumX at hN ⊢
  simp only [fx 64 _ (by decide), fx 73 _ (by decide), fx 76 _ (by decide), fx 77 _ (by decide), fx 78 _ (by decide), fx 79 _ (by decide), fx 80 _ (by decide), fx 81 _ (by decide), fx 82 _ (by decide), fx 83 _ (by decide)]
  exact hN
end Frame
