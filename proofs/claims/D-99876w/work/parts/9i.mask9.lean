/-! THE REFERENCE: ask, whole -/
theorem lit15 : (-1000000000000000 : Int64) = lI (-1000000000000000) := by decide
theorem ma_ask {σ : FS} {Z : Wd} {Q : Int64 → FS → Prop} (h : mAll σ Z) (hQ : ∀ σ', mAll σ' (opAsk Z).2 → Q (opAsk Z).1 σ') : mw_ask σ Q := by
  have he : wTn Z ≤ 1600 := h.1.2.2.2.1
  have hS := h.2.2.2.2.2.2.2.2.2.2.2.1
  have h130 := h.2.2.2.2.2.2.2.2.2.2.2.2.1
  unfold mw_ask
  rcases h.2.2.2.2.1 with hP | ⟨hP0, h50, _⟩
  rotate_left
  · refine ⟨fun z => absurd h50 z, fun _ => ?_⟩
    simp only [forall_eq]
    have hop : opAsk Z = (lI (-1000000000000000), putT Z (wTp Z) 0) := by unfold opAsk; rw [if_pos (by rw [hP0]; rfl)]
    rw [hop] at hQ
    have F1 : Fm [1] [] [] σ (sI σ 0 1 0) := Fm.sI σ _ (by decide)
    rw [lit15]
    exact hQ _ (mAll.ga (F := wF Z) h (Ga.of F1 (by decide) (by simp) (by simp)) (hS.eqv (F1.1 56 (by decide))) (by rw [fI_sI, if_pos ⟨rfl, rfl⟩]; rfl) (by rw [F1.1 7 (by decide)]; exact h.2.2.1.1) (by rw [F1.1 8 (by decide)]; exact h.2.2.1.2))
  have hpc : ¬ plC (wP Z) = 0 := by have := hP.1.1; omega
  have hN := h.2.2.2.2.2.1
  refine ⟨fun _ => ?_, fun z => absurd (hP.2.1.symm.trans z) (by decide)⟩
  simp (disch := omega) only [i_0, i_1, i_2, i_3, i_4, i_5, i_6, i_7, i_8, i_9, i_10, i_11, i_12, i_13, i_16, i_19, i_20, i_21, i_22, i_23, i_24, i_25, i_30, i_31, i_32, i_39, i_40, i_41, i_42, i_43, i_44, i_45, i_47, i_48, i_49, i_50, i_51, i_52, i_57, i_59, i_60, i_61, i_62, i_63, i_64, i_71, i_72, i_80, i_91, i_93, i_97, i_99, i_100, i_122, i_227, i_228, i_232, i_251, i_255, i_256, i_463, i_999, i_1000, i_1519, i_1600, i_9999, i_100000000, i_2147483639, i_2147483647, neg_nI1, nI_add, pk_mul, nI_remL, pk_sub, pk_div, nI_clamp, nI_leI, nI_ltI, nI_eq, vpT, nI_m1, m1_nI, nI_lem1, m1_le, m1_lt, nI_ltm1, nI_bit, nI_shl, nI_xor, nI_or, n_rem, forall_eq, true_and, and_true, implies_true, true_implies, false_implies, not_true_eq_false, not_false_eq_true, Nat.zero_add, Nat.add_zero, ite_true, ite_false, if_true, if_false, true_or, or_true, false_or, or_false, and_self, and_false, false_and, Nat.reduceEqDiff, reduceIte]
  have f0 : Fm [1, 2, 3, 4, 5, 6, 51, 103, 105, 106, 107] [] [] σ (sI (sI (sI (sI (sI (sI (sI (sI (sI (sI (sI σ 0 3 (fI σ 0 1)) 0 1 (nI 0)) 0 2 (nI 0)) 0 4 M1) 0 5 (nI 0)) 0 6 M1) 0 51 (nI 2)) 0 103 (nI 0)) 0 105 (nI 0)) 0 106 (nI 0)) 0 107 (nI 0)) := (Fm.sI σ _ (by decide)).trans ((Fm.sI _ _ (by decide)).trans ((Fm.sI _ _ (by decide)).trans ((Fm.sI _ _ (by decide)).trans ((Fm.sI _ _ (by decide)).trans ((Fm.sI _ _ (by decide)).trans ((Fm.sI _ _ (by decide)).trans ((Fm.sI _ _ (by decide)).trans ((Fm.sI _ _ (by decide)).trans ((Fm.sI _ _ (by decide)).trans (Fm.sI _ _ (by decide)))))))))))
  have v3 : fI (sI (sI (sI (sI (sI (sI (sI (sI (sI (sI (sI σ 0 3 (fI σ 0 1)) 0 1 (nI 0)) 0 2 (nI 0)) 0 4 M1) 0 5 (nI 0)) 0 6 M1) 0 51 (nI 2)) 0 103 (nI 0)) 0 105 (nI 0)) 0 106 (nI 0)) 0 107 (nI 0)) 0 3 = nI (wTn Z) := by simp [fI_sI]; exact h.2.1.1
  have v1 : fI (sI (sI (sI (sI (sI (sI (sI (sI (sI (sI (sI σ 0 3 (fI σ 0 1)) 0 1 (nI 0)) 0 2 (nI 0)) 0 4 M1) 0 5 (nI 0)) 0 6 M1) 0 51 (nI 2)) 0 103 (nI 0)) 0 105 (nI 0)) 0 106 (nI 0)) 0 107 (nI 0)) 0 1 = nI 0 := by simp [fI_sI]
  have v2 : fI (sI (sI (sI (sI (sI (sI (sI (sI (sI (sI (sI σ 0 3 (fI σ 0 1)) 0 1 (nI 0)) 0 2 (nI 0)) 0 4 M1) 0 5 (nI 0)) 0 6 M1) 0 51 (nI 2)) 0 103 (nI 0)) 0 105 (nI 0)) 0 106 (nI 0)) 0 107 (nI 0)) 0 2 = nI 0 := by simp [fI_sI]
  have v4 : fI (sI (sI (sI (sI (sI (sI (sI (sI (sI (sI (sI σ 0 3 (fI σ 0 1)) 0 1 (nI 0)) 0 2 (nI 0)) 0 4 M1) 0 5 (nI 0)) 0 6 M1) 0 51 (nI 2)) 0 103 (nI 0)) 0 105 (nI 0)) 0 106 (nI 0)) 0 107 (nI 0)) 0 4 = M1 := by simp [fI_sI]
  have v5 : fI (sI (sI (sI (sI (sI (sI (sI (sI (sI (sI (sI σ 0 3 (fI σ 0 1)) 0 1 (nI 0)) 0 2 (nI 0)) 0 4 M1) 0 5 (nI 0)) 0 6 M1) 0 51 (nI 2)) 0 103 (nI 0)) 0 105 (nI 0)) 0 106 (nI 0)) 0 107 (nI 0)) 0 5 = nI 0 := by simp [fI_sI]
  have v6 : fI (sI (sI (sI (sI (sI (sI (sI (sI (sI (sI (sI σ 0 3 (fI σ 0 1)) 0 1 (nI 0)) 0 2 (nI 0)) 0 4 M1) 0 5 (nI 0)) 0 6 M1) 0 51 (nI 2)) 0 103 (nI 0)) 0 105 (nI 0)) 0 106 (nI 0)) 0 107 (nI 0)) 0 6 = M1 := by simp [fI_sI]
  have v51 : fI (sI (sI (sI (sI (sI (sI (sI (sI (sI (sI (sI σ 0 3 (fI σ 0 1)) 0 1 (nI 0)) 0 2 (nI 0)) 0 4 M1) 0 5 (nI 0)) 0 6 M1) 0 51 (nI 2)) 0 103 (nI 0)) 0 105 (nI 0)) 0 106 (nI 0)) 0 107 (nI 0)) 0 51 = nI 2 := by simp [fI_sI]
  have v103 : fI (sI (sI (sI (sI (sI (sI (sI (sI (sI (sI (sI σ 0 3 (fI σ 0 1)) 0 1 (nI 0)) 0 2 (nI 0)) 0 4 M1) 0 5 (nI 0)) 0 6 M1) 0 51 (nI 2)) 0 103 (nI 0)) 0 105 (nI 0)) 0 106 (nI 0)) 0 107 (nI 0)) 0 103 = nI 0 := by simp [fI_sI]
  have v105 : fI (sI (sI (sI (sI (sI (sI (sI (sI (sI (sI (sI σ 0 3 (fI σ 0 1)) 0 1 (nI 0)) 0 2 (nI 0)) 0 4 M1) 0 5 (nI 0)) 0 6 M1) 0 51 (nI 2)) 0 103 (nI 0)) 0 105 (nI 0)) 0 106 (nI 0)) 0 107 (nI 0)) 0 105 = nI 0 := by simp [fI_sI]
  have v106 : fI (sI (sI (sI (sI (sI (sI (sI (sI (sI (sI (sI σ 0 3 (fI σ 0 1)) 0 1 (nI 0)) 0 2 (nI 0)) 0 4 M1) 0 5 (nI 0)) 0 6 M1) 0 51 (nI 2)) 0 103 (nI 0)) 0 105 (nI 0)) 0 106 (nI 0)) 0 107 (nI 0)) 0 106 = nI 0 := by simp [fI_sI]
  have v107 : fI (sI (sI (sI (sI (sI (sI (sI (sI (sI (sI (sI σ 0 3 (fI σ 0 1)) 0 1 (nI 0)) 0 2 (nI 0)) 0 4 M1) 0 5 (nI 0)) 0 6 M1) 0 51 (nI 2)) 0 103 (nI 0)) 0 105 (nI 0)) 0 106 (nI 0)) 0 107 (nI 0)) 0 107 = nI 0 := by simp [fI_sI]
  revert f0 v3 v1 v2 v4 v5 v6 v51 v103 v105 v106 v107
  generalize (sI (sI (sI (sI (sI (sI (sI (sI (sI (sI (sI σ 0 3 (fI σ 0 1)) 0 1 (nI 0)) 0 2 (nI 0)) 0 4 M1) 0 5 (nI 0)) 0 6 M1) 0 51 (nI 2)) 0 103 (nI 0)) 0 105 (nI 0)) 0 106 (nI 0)) 0 107 (nI 0)) = σ1
  intro f0 v3 v1 v2 v4 v5 v6 v51 v103 v105 v106 v107
  have hT1 : Tok σ1 (wTp Z) (wTn Z) 0 := by
    refine ⟨⟨v3, he, ?_, h.1.2.2.2.2.1, h.2.2.2.2.2.2.2.2.2.2.2.2.2.fm (fun a z => f0.2.1 a (by simp))⟩, v2, Nat.zero_le _, v5, ⟨Or.inl v4, v6⟩, ?_⟩
    · rw [f0.2.1 0 (by simp)]; exact h.2.1.2
    · rw [v4]
      exact ⟨fun z => absurd z (by decide), fun z => by simp [prt] at z⟩
  have hX1 : Xs σ1 (wTp Z) (wTn Z) 0 [] [] 0 0 := ⟨hT1, ⟨v103, fun i c hc => by simp at hc⟩, ⟨v105, trivial⟩, ⟨v106, by decide⟩, v107, by simp⟩
  have g1 : Ga σ σ1 := Ga.of f0 (by decide) (by simp) (by simp)
  have gq : ∀ σ', FQ σ1 σ' → Ga σ σ' := fun σ' f => g1.trans (Ga.of f (by decide) (by decide) (by simp))
  have bad : ∀ q, pAsk (wTp Z) (wTn Z) = .inr q → ∀ σ' x, FQ σ1 σ' → Bd σ' q → mw_ask_133 x σ' Q := by
    intro q hp σ' x f hB
    have hop : opAsk Z = (lI (-1000000000000000), ((wTp Z, 0), (nI q.1, nI q.2), Z.2.2)) := by unfold opAsk; rw [if_neg hpc, hp]
    rw [hop] at hQ
    unfold mw_ask_133
    simp only [forall_eq]
    rw [show fI (sI σ' 0 7 (fI σ' 0 5)) 0 6 = nI q.2 by rw [fI_sI, if_neg (by decide)]; exact hB.2.1]
    rw [hB.1]
    rw [show fI (sI (sI σ' 0 7 (nI q.1)) 0 8 (nI q.2)) 0 5 = nI q.1 by rw [fI_sI, if_neg (by decide), fI_sI, if_neg (by decide)]; exact hB.1]
    refine ⟨fun z => absurd z (by rw [← hB.1]; exact hB.ne), fun _ => ?_⟩
    rw [lit15]
    have F7 : Fm [7, 8] [] [] σ' (sI (sI σ' 0 7 (nI q.1)) 0 8 (nI q.2)) := (Fm.sI _ _ (by decide)).trans (Fm.sI _ _ (by decide))
    refine hQ _ (mAll.ga (F := (nI q.1, nI q.2)) h ((gq σ' f).trans (Ga.of F7 (by decide) (by simp) (by simp))) (hS.eqv ?_) ?_ ?_ ?_)
    · rw [F7.1 56 (by decide), f.1 56 (by decide), f0.1 56 (by decide)]
    · rw [F7.1 1 (by decide), f.1 1 (by decide)]; exact v1
    · rw [fI_sI, if_neg (by decide), fI_sI, if_pos ⟨rfl, rfl⟩]
    · rw [fI_sI, if_pos ⟨rfl, rfl⟩]
  have badB : ∀ q, pAsk (wTp Z) (wTn Z) = .inr q → ∀ σ' x, FQ σ1 σ' → Bd σ' q → mw_ask_109 x σ' Q := fun q hp σ' x f hB => ⟨fun _ => bad q hp σ' x f hB, fun z => absurd z hB.ne⟩
  have good : ∀ k cs b kd, k < 6 → tyL al2 cs [] = some [kd] → pAsk (wTp Z) (wTn Z) = (if lk (wTp Z) (wTn Z) b < wTn Z then .inr (1, lk (wTp Z) (wTn Z) b) else .inl ((k, cs), lk (wTp Z) (wTn Z) b)) → ∀ σ', FQ σ1 σ' → Xs σ' (wTp Z) (wTn Z) b ([] ++ cs) [] 0 0 → mw_ask_109 (nI k) σ' Q := by
    intro k cs b kd hk hty hp σ' f hX
    rw [List.nil_append] at hX
    have hb := h.1.2.2.2.2.1 (lk (wTp Z) (wTn Z) b)
    have hcl := hX.cl
    have hle := hX.1.le
    have hl := hX.2.2.2.2.2
    refine ⟨fun z => absurd hX.1.2.2.2.1 z, fun _ => ml_look hX.1 (fun hT => ?_)⟩
    have fa : FQ σ1 (sI σ' 0 2 (nI (lk (wTp Z) (wTn Z) b))) := f.trans (FT.q (FT.at σ' _))
    have hXa := hX.tok (FT.at σ' _) hT (lk_spec hX.1.2.2.1).1
    by_cases hlt : lk (wTp Z) (wTn Z) b < wTn Z
    · rw [if_pos hlt] at hp
      rw [byI_at hlt]
      refine ⟨fun z => absurd (z.trans neg_nI1) (by rw [nI_m1 (by omega)]; exact id), fun _ => ?_⟩
      rw [hT.2.1]
      exact ml_fail (q := (1, lk (wTp Z) (wTn Z) b)) hT.2.2.2.1 (by simp) (fun σ5 hF5 hB5 => bad _ hp σ5 _ (fa.trans (hF5.wide (by decide) (by decide) (by decide))) hB5)
    · rw [if_neg hlt] at hp
      have hby : byI (wTp Z) (wTn Z) (lk (wTp Z) (wTn Z) b) = M1 := by unfold byI; rw [if_neg hlt]
      rw [hby]
      refine ⟨fun _ => ?_, fun z => absurd rfl z⟩
      have hop : opAsk Z = (lI (asR (wP Z) (wS Z) k cs (nP (wP Z))), ((wTp Z, 0), (nI 0, M1), Z.2.2)) := by unfold opAsk; rw [if_neg hpc, hp]
      rw [hop] at hQ
      have h5 := hXa.1.2.2.2.1
      have h6 := hXa.1.2.2.2.2.1.2
      have hC := hXa.2.1
      revert fa h5 h6 hC
      generalize sI σ' 0 2 (nI (lk (wTp Z) (wTn Z) b)) = σ2
      intro fa h5 h6 hC
      unfold mw_ask_133
      simp only [forall_eq]
      rw [h5, show fI (sI σ2 0 7 (nI 0)) 0 6 = M1 by rw [fI_sI, if_neg (by decide)]; exact h6]
      rw [show fI (sI (sI σ2 0 7 (nI 0)) 0 8 M1) 0 5 = nI 0 by rw [fI_sI, if_neg (by decide), fI_sI, if_neg (by decide)]; exact h5]
      refine ⟨fun _ => ?_, fun z => absurd rfl z⟩
      have F7 : Fm [7, 8] [] [] σ2 (sI (sI σ2 0 7 (nI 0)) 0 8 M1) := (Fm.sI _ _ (by decide)).trans (Fm.sI _ _ (by decide))
      have g7 : Ga σ (sI (sI σ2 0 7 (nI 0)) 0 8 M1) := (gq σ2 fa).trans (Ga.of F7 (by decide) (by simp) (by simp))
      have w7 : fI (sI (sI σ2 0 7 (nI 0)) 0 8 M1) 0 7 = nI 0 := by rw [fI_sI, if_neg (by decide), fI_sI, if_pos ⟨rfl, rfl⟩]
      have w8 : fI (sI (sI σ2 0 7 (nI 0)) 0 8 M1) 0 8 = M1 := by rw [fI_sI, if_pos ⟨rfl, rfl⟩]
      have w1 : fI (sI (sI σ2 0 7 (nI 0)) 0 8 M1) 0 1 = nI 0 := by rw [F7.1 1 (by decide), fa.1 1 (by decide)]; exact v1
      have w56 : fI (sI (sI σ2 0 7 (nI 0)) 0 8 M1) 0 56 = fI σ 0 56 := by rw [F7.1 56 (by decide), fa.1 56 (by decide), f0.1 56 (by decide)]
      have hC7 : Cq (sI (sI σ2 0 7 (nI 0)) 0 8 M1) cs := hC.eqv (F7.1 103 (by decide)) rfl
      revert g7 w7 w8 w1 w56 hC7
      generalize sI (sI σ2 0 7 (nI 0)) 0 8 M1 = σ3
      intro g3 w7 w8 w1 w56 hC3
      have go : ∀ y : Int64, y = lI (if 2 ≤ k then 0 else -1) → mw_ask_173 (nI k) y σ3 Q := by
        intro y hy
        unfold mw_ask_173
        simp only [forall_eq]
        have e4 : ∀ j, j ≠ 111 → fI (sI (sL σ3 0 110 y) 0 111 1) 0 j = fI σ3 0 j := fun j hj => by rw [fI_sI, if_neg (by omega), fI_sL]
        have g4 : Ga σ (sI (sL σ3 0 110 y) 0 111 1) := g3.trans ⟨fun j hj => e4 j (by intro z; subst z; exact absurd hj (by decide)), fun _ _ => rfl, rfl, by rw [fL_sI, fL_sL, if_neg (by decide)]⟩
        refine ml_laysLifted (P := wP Z) (s := wS Z) (hP.ga g4) (hN.eqv (g4.2.1 52 (by decide))) (hS.eqv (by rw [e4 56 (by decide)]; exact w56)) (by rw [g4.1 57 (by decide)]; exact h130.1) (by rw [g4.1 60 (by decide)]; exact h130.2) (fun σ5 F5 S5 L5 => ?_)
        have F6 : Fm [51] [] [] σ5 (sI σ5 0 51 2) := Fm.sI σ5 _ (by decide)
        have g6 : Ga σ (sI σ5 0 51 2) := g4.trans ((Ga.of F5 (by decide) (by decide) (by decide)).trans (Ga.of F6 (by decide) (by simp) (by simp)))
        have i6 : ∀ j ∈ ([1, 7, 8] : List Nat), fI (sI σ5 0 51 2) 0 j = fI σ3 0 j := fun j hj => by
          have hj3 : j = 1 ∨ j = 7 ∨ j = 8 := by simpa using hj
          rw [F6.1 j (by simp; omega), F5.1 j (by simp [kAs]; omega), e4 j (by omega)]
        refine ml_ask192 (kd := kd) hk (hP.ga g6) (hN.eqv (g6.2.1 52 (by decide))) (fun p t hp ht => L5 p t hp ht) (hC3.eqv (by rw [F6.1 103 (by decide), F5.1 103 (by decide), e4 103 (by decide)]) (by show fA σ5 102 = _; rw [F5.2.1 102 (by decide)]; rfl)) (by omega) hty (by show fL σ5 0 110 = _; rw [F5.2.2.2, fL_sI, fL_sL, if_pos ⟨rfl, rfl⟩]; exact hy) (by rw [F6.1 111 (by decide), F5.1 111 (by decide), fI_sI, if_pos ⟨rfl, rfl⟩]; rfl) (fun σ7 G7 J7 => ?_)
        refine hQ σ7 (mAll.ga (F := (nI 0, M1)) h (g6.trans G7) (S5.eqv (by rw [J7 56 (by decide), F6.1 56 (by decide)])) ?_ ?_ ?_)
        · rw [J7 1 (by decide), i6 1 (by decide)]; exact w1
        · rw [J7 7 (by decide), i6 7 (by decide)]; exact w7
        · rw [J7 8 (by decide), i6 8 (by decide)]; exact w8
      refine ⟨fun z => go 0 ?_, fun z => go (-1) ?_⟩
      · have z2 : nI 2 ≤ nI k := z
        rw [nI_leI (by omega) (by omega)] at z2
        rw [if_pos z2]; rfl
      · have z2 : ¬ nI 2 ≤ nI k := z
        rw [nI_leI (by omega) (by omega)] at z2
        rw [if_neg z2]; rfl
  refine ml_qKind hT1 (fun k b hp hk σ2 hF2 hT2 => ?_) (fun q hp σ2 r hF2 hB2 => ⟨fun _ => ⟨fun _ => badB q (by unfold pAsk; rw [hp]; rfl) σ2 r (FT.q hF2) hB2, fun z => absurd z hB2.ne⟩, fun z => absurd z hB2.ne⟩)
  have hX2 := hX1.tok hF2 hT2 (Nat.zero_le _)
  have h51 : fI σ2 0 51 = nI 2 := by rw [hF2.1 51 (by decide)]; exact v51
  have hpa : pAsk (wTp Z) (wTn Z) = pB (if k < 3 then pTest (pFact (alK 2) (wTp Z) (wTn Z) 6) (wTp Z) (wTn Z) b else pSum (pAtom (alK 2) (wTp Z) (wTn Z) 6) (wTp Z) (wTn Z) b) (fun cs b2 => if lk (wTp Z) (wTn Z) b2 < wTn Z then .inr (1, lk (wTp Z) (wTn Z) b2) else .inl ((k, cs), lk (wTp Z) (wTn Z) b2)) := by unfold pAsk; rw [hp]; rfl
  refine ⟨fun z => absurd hT2.2.2.2.1 z, fun _ => ?_⟩
  simp (disch := omega) only [i_0, i_1, i_2, i_3, i_4, i_5, i_6, i_7, i_8, i_9, i_10, i_11, i_12, i_13, i_16, i_19, i_20, i_21, i_22, i_23, i_24, i_25, i_30, i_31, i_32, i_39, i_40, i_41, i_42, i_43, i_44, i_45, i_47, i_48, i_49, i_50, i_51, i_52, i_57, i_59, i_60, i_61, i_62, i_63, i_64, i_71, i_72, i_80, i_91, i_93, i_97, i_99, i_100, i_122, i_227, i_228, i_232, i_251, i_255, i_256, i_463, i_999, i_1000, i_1519, i_1600, i_9999, i_100000000, i_2147483639, i_2147483647, neg_nI1, nI_add, pk_mul, nI_remL, pk_sub, pk_div, nI_clamp, nI_leI, nI_ltI, nI_eq, vpT, nI_m1, m1_nI, nI_lem1, m1_le, m1_lt, nI_ltm1, nI_bit, nI_shl, nI_xor, nI_or, n_rem, forall_eq, true_and, and_true, implies_true, true_implies, false_implies, not_true_eq_false, not_false_eq_true, Nat.zero_add, Nat.add_zero, ite_true, ite_false, if_true, if_false, true_or, or_true, false_or, or_false, and_self, and_false, false_and, Nat.reduceEqDiff, reduceIte]
  refine ⟨fun hk3 => ⟨fun z => absurd hT2.2.2.2.1 z, fun _ => ?_⟩, fun hk3 => ?_⟩
  · rw [if_neg (by omega)] at hpa
    refine ml_qSums hX2 h51 (by decide) (fun x U' he => by cases he) (fun cs b2 hp2 σ3 hF3 hX3 => good k cs b2 false hk (ty_sum (ty_atom al2 _ _ 6) _ _ _ hp2 []) (by rw [hpa, hp2]; rfl) σ3 ((FT.q hF2).trans hF3) hX3) (fun q hp2 σ3 hF3 hB3 => badB q (by rw [hpa, hp2]; rfl) σ3 _ ((FT.q hF2).trans hF3) hB3.1)
  · rw [if_pos (by omega)] at hpa
    refine ml_qTest hX2 h51 (by decide) (fun cs b2 hp2 σ3 hF3 hX3 => good k cs b2 true hk (ty_test (ty_fact al2 _ _ 6) _ _ _ hp2 []) (by rw [hpa, hp2]; rfl) σ3 ((FT.q hF2).trans hF3) hX3) (fun q hp2 σ3 hF3 hB3 => badB q (by rw [hpa, hp2]; rfl) σ3 _ ((FT.q hF2).trans hF3) hB3)
