/-! the model: links, classOf; links are the same where the lasting cells are -/
set_option maxRecDepth 100000

theorem stI_mp {J J' : Jm} (h : Mp J J') (known : Int) : stI J' known = stI J known := by
  unfold stI
  rw [EH_mp h known]
theorem WH_mp {J J' : Jm} (hT : MTab J) (h : Mp J J') (known : Int) : WH J' known = WH J known := by
  unfold WH
  rw [stI_mp h known, whOf_cong hT h (fun _ _ => rfl)]
theorem SHk_mp {J J' : Jm} (h : Mp J J') (known is : Int) (o u v K : Nat) : SHk J' known is o u v K ↔ SHk J known is o u v K := by
  unfold SHk shA shB
  simp only [h 337 _ rfl, h 338 _ rfl, h 333 _ rfl, h 336 _ rfl, h 334 _ rfl, h 335 _ rfl, EH_mp h known]
theorem LK_mp {J J' : Jm} (hT : MTab J) (hX : MTxt J) (h : Mp J J') (known : Int) (o u v : Nat) : LK J' known o u v ↔ LK J known o u v := by
  have hc : LKc J' known o u v ↔ LKc J known o u v := by
    unfold LKc
    rw [rbOf_mp h, WH_mp hT h]
    by_cases hr : rbOf J known = -1
    · exact ⟨fun q => absurd hr q.1, fun q => absurd hr q.1⟩
    · have hin := rbN_in J known (J 313 8).toNat
      have hX1 := hX.1
      have hTt : ((rbOf J known).toNat : Int) < J 313 8 := by unfold rbOf at hr ⊢; omega
      have hXT := hX.2 _ hTt
      generalize (rbOf J known).toNat = T at hTt hXT ⊢
      have e1 : J' 320 T = J 320 T := h _ _ (by unfold mper scr; simp; omega)
      rw [e1]
      have key : ∀ c : Nat, c < (J 320 T).toNat → J' 321 (12 * T + c) = J 321 (12 * T + c) ∧ J' 324 (12 * T + c) = J 324 (12 * T + c) ∧ tpOf J' (12 * T + c) (WH J known) = tpOf J (12 * T + c) (WH J known) := fun c hc => ⟨h _ _ (by unfold mper scr; simp; omega), h _ _ (by unfold mper scr; simp; omega), tpOf_mp h (by omega) _⟩
      unfold CLk
      constructor
      · rintro ⟨q, c, h1, h2, h3⟩
        obtain ⟨k1, k2, k3⟩ := key c h1
        rw [k1] at h2
        rw [k2, k3] at h3
        exact ⟨q, c, h1, h2, h3⟩
      · rintro ⟨q, c, h1, h2, h3⟩
        obtain ⟨k1, k2, k3⟩ := key c h1
        exact ⟨q, c, h1, by rw [k1]; exact h2, by rw [k2, k3]; exact h3⟩
  unfold LK
  rw [hc, SHk_mp h, h 313 32 rfl]
theorem PT_mp {J J' : Jm} (h : Mp J J') (known : Int) (o u v : Nat) : PT J' known o u v ↔ PT J known o u v := by
  unfold PT
  rw [SHk_mp h, h 313 32 rfl]
/-- the label of a sign's class -/
noncomputable def clsL (J : Jm) (known : Int) (o : Nat) : Nat → Nat := labOf (fun u v => u < 40 ∧ v < 40 ∧ LK J known o u v)
theorem PLk.mp {J J0 J' : Jm} {known : Int} (hT : MTab J) (hX : MTxt J) (h : Mp J J0) (hp : PLk J0 known J') : FLk J0 J' ∧ (∀ s : Nat, s < 40 → J' 332 s = (labOf (EH J known) s : Nat)) ∧ PWh J' (WH J known) ∧ (∀ o u v : Nat, o < 2 → u < 40 → v < 40 → B01 (J' 341 (1600 * o + 40 * u + v)) (LK J known o u v)) ∧ (∀ o u v : Nat, o < 2 → u < 40 → v < 40 → B01 (J' 342 (1600 * o + 40 * u + v)) (PT J known o u v)) ∧ (∀ o s : Nat, o < 2 → s < 40 → J' 343 (40 * o + s) = (clsL J known o s : Nat)) := by
  obtain ⟨h1, h2, h3, h4, h5, h6⟩ := hp
  refine ⟨h1, ?_, ?_, fun o u v ho hu hv => (h4 o u v ho hu hv).iff (LK_mp hT hX h known o u v), fun o u v ho hu hv => (h5 o u v ho hu hv).iff (PT_mp h known o u v), fun o s ho hs => ?_⟩
  · rw [← EH_mp h known]; exact h2
  · rw [← WH_mp hT h]; exact h3
  · rw [h6 o s ho hs]
    unfold clsL
    congr 2
    funext u v
    exact propext (by rw [LK_mp hT hX h known o u v])
noncomputable def rClass (J : Jm) (o s known : Int) : Int := if (0 ≤ o ∧ o ≤ 1) ∧ (0 ≤ s ∧ s < 40) ∧ kno J known then ((clsL J known o.toNat (labOf (EH J known) s.toNat) : Nat) : Int) else -1
theorem m_classOf {w : Wd} {S : Sh} {J : Jm} {Q : Out → Sh → Jm → Prop} (hL : Lay S) (o s known : Int) (hH : MHeld J) (hT : MTab J) (hX : MTxt J) (hS : MShr J) (K : ∀ J', Kp J J' → Q (.inl (some (vI (rClass J o s known)))) S J') : V w 4 mX5_classOf 0 (ent mX5_classOf [vR 313, vI o, vI s, vI known]) [] S J Q := by
  have e : (up J 313 0 0) 313 1 = J 313 1 := up_nk (by decide)
  have hm := (k0 J).mp
  have no : ¬ ((0 ≤ o ∧ o ≤ 1) ∧ (0 ≤ s ∧ s < 40) ∧ kno J known) → Q (.inl (some (vI (-1)))) S (up J 313 0 0) := by
    intro q
    have := K _ (k0 J)
    unfold rClass at this
    rw [if_neg q] at this
    exact this
  refine gX5_classOf_0 hL o s known ?_
  rw [e]
  refine br_i (fun h0 => br_i (fun h1 => br_i (fun h2 => ⟨hH.mp hm, hT.mp hm, hX.mp hm, hS.mp hm, fun J1 hp => ?_⟩) (fun h2 => no (fun q => h2 q.2.2))) (fun h1 => no (fun q => h1 q.2.1))) (fun h0 => no (fun q => h0 q.1))
  obtain ⟨p1, p2, p3, p4, p5, p6⟩ := hp.mp hT hX hm
  obtain ⟨o', rfl⟩ : ∃ n : Nat, o = n := ⟨o.toNat, by omega⟩
  obtain ⟨s', rfl⟩ : ∃ n : Nat, s = n := ⟨s.toNat, by omega⟩
  have hl := lab40 (EH J known) (s := s') (by omega)
  have e2 : J1 332 ((s' : Int).toNat) = ((labOf (EH J known) s' : Nat) : Int) := p2 s' (by omega)
  rw [e2]
  repeat' (first | (refine And.intro ?_ ?_; omega))
  have := K J1 ((k0 J).trans p1.kp)
  unfold rClass at this
  rw [if_pos ⟨h0, h1, h2⟩, Int.toNat_natCast, Int.toNat_natCast, ← p6 o' _ (by omega) hl] at this
  rw [show (40 * (o' : Int) + ((labOf (EH J known) s' : Nat) : Int)).toNat = 40 * o' + labOf (EH J known) s' by omega]
  exact this
