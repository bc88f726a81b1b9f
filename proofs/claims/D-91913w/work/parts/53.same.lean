/-! the model: ways are the same where the lasting cells are -/
set_option maxRecDepth 100000

theorem putN_cong {ag : Nat → Int → Nat → Int → Bool} {st : Nat → Nat} {P P' C : Nat → Int} : ∀ (m i : Nat) (g : Nat → Int), (∀ k, i ≤ k → k < i + m → P' k = P k) → putN ag st P' C m i g = putN ag st P C m i g
  | 0, _, _, _ => rfl
  | m + 1, i, g, h => by
    have ih := fun g => putN_cong (ag := ag) (st := st) (C := C) m (i + 1) g (fun k h1 h2 => h k (by omega) (by omega))
    rw [putN, putN, h i (Nat.le_refl _) (by omega)]
    split
    · exact ih g
    · split
      · rfl
      · exact ih _
theorem rowsF_cong {f f' : Nat → List Way} : ∀ v u, (∀ i, u ≤ i → i < u + v → f' i = f i) → rowsF f' v u = rowsF f v u
  | 0, _, _ => rfl
  | v + 1, u, h => by rw [rowsF, rowsF, h u (Nat.le_refl _) (by omega), rowsF_cong v (u + 1) (fun i h1 h2 => h i (by omega) (by omega))]
/-- alike for the names from j on, m of them -/
def EnvEq (E E' : WE) (j m : Nat) : Prop := E'.st = E.st ∧ E'.ag = E.ag ∧ ∀ i, j ≤ i → i < j + m → E'.tb i = E.tb i ∧ E'.cl i = E.cl i ∧ E'.rw (E.tb i) = E.rw (E.tb i) ∧ ∀ u, u < E.rw (E.tb i) → E'.sz (8 * E.tb i + u) = E.sz (8 * E.tb i + u) ∧ ∀ q, q < E.sz (8 * E.tb i + u) → E'.pl (8 * E.tb i + u) q = E.pl (8 * E.tb i + u) q
theorem tryR_cong {E E' : WE} {j m : Nat} (h : EnvEq E E' j (m + 1)) (ch : List Nat) (g : Nat → Int) {u : Nat} (hu : u < E.rw (E.tb j)) : tryR E' j ch g u = tryR E j ch g u := by
  obtain ⟨h1, h2, h3⟩ := h
  obtain ⟨a1, a2, a3, a4⟩ := h3 j (Nat.le_refl _) (by omega)
  obtain ⟨b1, b2⟩ := a4 u hu
  unfold tryR putR
  rw [a1, a2, h1, h2, b1]
  split
  · rfl
  · split
    · exact putN_cong _ _ _ (fun k _ hk => b2 k (by omega))
    · rfl
theorem wy_cong {E E' : WE} : ∀ (m j : Nat) (ch : List Nat) (g : Nat → Int), EnvEq E E' j m → wy E' m j ch g = wy E m j ch g
  | 0, _, _, _, _ => rfl
  | m + 1, j, ch, g, h => by
    obtain ⟨a1, a2, a3, a4⟩ := h.2.2 j (Nat.le_refl _) (by omega)
    rw [wy_succ, wy_succ, a1, a3]
    refine rowsF_cong _ _ (fun u _ hu => ?_)
    unfold wyU
    rw [tryR_cong h ch g (by omega), a1]
    split
    · rfl
    · exact wy_cong m (j + 1) _ _ ⟨h.1, h.2.1, fun i h1 h2 => h.2.2 i (by omega) (by omega)⟩
theorem clsL_mp {J J' : Jm} (hT : MTab J) (hX : MTxt J) (h : Mp J J') (known : Int) (o : Nat) : clsL J' known o = clsL J known o := by
  unfold clsL
  congr 1
  funext u v
  exact propext (by rw [LK_mp hT hX h known o u v])
theorem agB_mp {J J' : Jm} (hT : MTab J) (hX : MTxt J) (h : Mp J J') (known : Int) : agB J' known = agB J known := by
  funext s c o d
  unfold agB
  apply Bool.eq_iff_iff.mpr
  refine Iff.trans (@decide_eq_true_iff _ (Classical.propDecidable _)) (Iff.trans ?_ (@decide_eq_true_iff _ (Classical.propDecidable _)).symm)
  rw [clsL_mp hT hX h, clsL_mp hT hX h, PT_mp h, PT_mp h]
theorem nacB_mp {J J' : Jm} (h : Mp J J') (known : Int) {n : Nat} (hn : n < 6) : nacB J' known n = nacB J known n := by
  unfold nacB namB tabB
  rw [h 350 n (by unfold mper scr; simp; omega), h 351 _ rfl, h 352 _ rfl, h 314 _ rfl, h 315 _ rfl]
theorem tkL_mp {J J' : Jm} (hN : MNam J) (h : Mp J J') (known but : Int) : tkL J' known but = tkL J known but := by
  unfold tkL
  rw [h 313 55 rfl]
  have hN1 := hN.1
  have key : ∀ n, n ≤ 6 → tkU J' known but n = tkU J known but n := by
    intro n
    induction n with
    | zero => intro _; rfl
    | succ n ih =>
      intro hn
      rw [tkU, tkU, ih (by omega)]
      unfold tkB
      rw [nacB_mp h known (by omega)]
  exact key _ (by omega)
theorem envOf_mp {J J' : Jm} (h0 : MI0 J) (h : Mp J J') (known : Int) {L : List Nat} (hL : ∀ j, j < L.length → (((L.getD j 0 : Nat)) : Int) < J 313 55) : EnvEq (envOf J known L) (envOf J' known L) 0 L.length := by
  obtain ⟨hH, hT, hX, hS, hN⟩ := h0
  refine ⟨by show labOf (EH J' known) = labOf (EH J known); rw [EH_mp h known], agB_mp hT hX h known, fun i _ hi => ?_⟩
  have hi' := hL i (by omega)
  have hN1 := hN.1
  obtain ⟨n1, n2⟩ := hN.2 _ hi'
  have eo : J' 350 (L.getD i 0) = J 350 (L.getD i 0) := h _ _ (by generalize L.getD i 0 = q at hi'; unfold mper scr; simp; omega)
  have hT1 := hT.1
  refine ⟨?_, spOf_mp hX n1 (by omega) h known, ?_, fun u hu => ?_⟩
  · show (J' 350 (L.getD i 0)).toNat = (J 350 (L.getD i 0)).toNat
    rw [eo]
  · show (J' 316 (J 350 (L.getD i 0)).toNat).toNat = (J 316 (J 350 (L.getD i 0)).toNat).toNat
    rw [h 316 _ (by generalize J 350 (L.getD i 0) = q at n2; unfold mper scr; simp; omega)]
  · have hu' : u < (J 316 (J 350 (L.getD i 0)).toNat).toNat := hu
    show (J' 317 (8 * (J 350 (L.getD i 0)).toNat + u)).toNat = (J 317 (8 * (J 350 (L.getD i 0)).toNat + u)).toNat ∧ ∀ q, q < (J 317 (8 * (J 350 (L.getD i 0)).toNat + u)).toNat → J' 318 (6 * (8 * (J 350 (L.getD i 0)).toNat + u) + q) = J 318 (6 * (8 * (J 350 (L.getD i 0)).toNat + u) + q)
    obtain ⟨t, et⟩ : ∃ t : Nat, J 350 (L.getD i 0) = t := ⟨(J 350 (L.getD i 0)).toNat, by omega⟩
    rw [et, Int.toNat_natCast] at hu' ⊢
    have ht := hT.2 t (by omega)
    have hz := (ht.2 u (by omega)).1
    refine ⟨by rw [h 317 (8 * t + u) (by unfold mper scr; simp; omega)], fun q hq => ?_⟩
    exact h _ _ (by unfold mper scr; simp; omega)
theorem wyL_mp {J J' : Jm} (h0 : MI0 J) (h : Mp J J') (known but : Int) : wyL J' known but = wyL J known but := by
  unfold wyL
  rw [tkL_mp h0.2.2.2.2 h]
  exact wy_cong _ _ _ _ (envOf_mp h0 h known (fun j hj => tkL_lt h0.2.2.2.2 hj))
/-- all has been found, told in the lasting memory -/
theorem PAll.mp {J J0 J' : Jm} {known : Int} (h0 : MI0 J) (h : Mp J J0) (hp : PAll J0 known J') : Kp J0 J' ∧ (∀ s : Nat, s < 40 → J' 332 s = ((labOf (EH J known) s : Nat) : Int)) ∧ J' 313 68 = ((wyL J known 0).length : Nat) ∧ ∀ s c, s < 40 → c < 136 → J' 361 (136 * s + c) = ((tlC (wyL J known 0) s c : Nat) : Int) := by
  obtain ⟨a1, a2, a3, a4⟩ := hp
  rw [EH_mp h known] at a2
  rw [wyL_mp h0 h] at a3 a4
  exact ⟨a1, a2, a3, a4⟩
