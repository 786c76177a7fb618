/-! THE REFERENCE: ask, whole -/
theorem ml_ask192 {σ : FS} {P : Pl} {s : St} {k : Nat} {cs : List Nat} {kd : Bool} {Q : Int64 → FS → Prop} (hk : k < 6) (hP : mP σ P) (hN : mN σ P s) (hL : LfA σ P s) (hC : Cq σ cs) (hcl : cs.length ≤ 1600) (hty : tyL al2 cs [] = some [kd]) (ha : fL σ 0 110 = lI (if 2 ≤ k then 0 else -1)) (h111 : fI σ 0 111 = nI 1)
    (hQ : ∀ σ', Ga σ σ' → (∀ j ∈ ([1, 7, 8, 56] : List Nat), fI σ' 0 j = fI σ 0 j) → Q (lI (asR P s k cs (nP P))) σ') : mw_ask_192 (nI k) (nI 0) σ Q := by
  have h7 := hP.1.2.2.2.2.1
  unfold mw_ask_192
  intro X hX
  have key : ∀ m p (σ1 : FS), p + m = nP P → Ga σ σ1 → (∀ j ∈ ([1, 7, 8, 56] : List Nat), fI σ1 0 j = fI σ 0 j) → Cq σ1 cs → LfA σ1 P s → fL σ1 0 110 = lI (asR P s k cs p) → (-1000000 - 1000000 * (p : Int) ≤ asR P s k cs p ∧ asR P s k cs p ≤ 1000000 + 1000000 * (p : Int)) → fI σ1 0 111 = nI (if decide (p = 0) = true then 1 else 0) → X (nI k) (nI p) σ1 := by
    intro m
    induction m with
    | zero =>
      intro p σ1 hm hG hj hC1 hL1 ha1 hb h1
      have hpp : p = nP P := by omega
      subst hpp
      have hP1 := hP.ga hG
      refine hX _ _ _ (ml_personMany hP1 ⟨fun _ => ?_, fun z => absurd ((nI_leI (by omega) (by omega)).mpr (by omega)) z⟩)
      rw [ha1]
      exact hQ σ1 hG hj
    | succ m ih =>
      intro p σ1 hm hG hj hC1 hL1 ha1 hb h1
      have hpp : p < nP P := by omega
      have hP1 := hP.ga hG
      refine hX _ _ _ (ml_personMany hP1 ⟨fun z => absurd ((nI_leI (by omega) (by omega)).mp z) (by omega), fun _ => ?_⟩)
      simp only [forall_eq]
      have F2 : Fm [54] [] [] σ1 (sI σ1 0 54 (nI p)) := Fm.sI σ1 _ (by decide)
      have G2 : Ga σ (sI σ1 0 54 (nI p)) := hG.trans (Ga.of F2 (by decide) (by simp) (by simp))
      have h54 : fI (sI σ1 0 54 (nI p)) 0 54 = nI p := by rw [fI_sI, if_pos ⟨rfl, rfl⟩]
      have hN2 : mN (sI σ1 0 54 (nI p)) P s := hN.eqv (G2.2.1 52 (by decide))
      refine ml_qTold (hP.ga G2) hN2 (fun p t hp ht => hL1 p t hp ht) h54 hpp (hC1.eqv (F2.1 103 (by decide)) rfl) hcl hty (fun σ3 F3 => ?_)
      have hv := evA_in hP.1 hN.1 hpp hty
      have G3 : Ga σ σ3 := G2.trans (Ga.of F3 (by decide) (by simp) (by decide))
      have hmb := tkS_in (k := k) (p := p) (acc := asR P s k cs p) (v := evV (zPt s p 0 0) (lkA P s p) cs) (first := decide (p = 0)) (m := 1000000 * (p : Int)) (by omega) hv (by omega) hb
      refine ml_qTakes (acc := asR P s k cs p) (first := decide (p = 0)) hk (by omega) (by rw [F3.2.2.2]; exact ha1) (by omega) hv (by rw [F3.1 111 (by decide), F2.1 111 (by decide)]; exact h1) (fun σ4 F4 a4 b4 => ?_)
      rw [show nI p + 1 = nI (p + 1) from nI_add _ 1]
      refine ih (p + 1) σ4 (by omega) (G3.trans (Ga.fl F4)) (fun j hjj => ?_) ?_ ?_ a4 ?_ ?_
      · have hj4 : j = 1 ∨ j = 7 ∨ j = 8 ∨ j = 56 := by simpa using hjj
        rw [F4.1 j (by omega), F3.1 j (by simp; omega), F2.1 j (by simp; omega)]; exact hj j hjj
      · exact hC1.eqv (by rw [F4.1 103 (by decide), F3.1 103 (by decide), F2.1 103 (by decide)]) (by rw [F4.2.1, F3.2.1 102 (by simp)]; rfl)
      · intro p' t' hp' ht'
        rw [F4.2.1, F3.2.1 61 (by simp)]
        exact hL1 p' t' hp' ht'
      · show -1000000 - 1000000 * ((p + 1 : Nat) : Int) ≤ tkS _ _ _ _ _ ∧ tkS _ _ _ _ _ ≤ _
        omega
      · rw [b4, if_neg (by simp)]
  exact key (nP P) 0 σ (by omega) ⟨fun _ _ => rfl, fun _ _ => rfl, rfl, rfl⟩ (fun _ _ => rfl) hC hL ha (by unfold asR; split <;> omega) (by rw [h111]; rfl)
