/-! THE REFERENCE: what each would lift -/
theorem zLf_n {P : Pl} {own side : Nat} : ∀ (n : Nat) (h : Nat → Nat), (zLf P own side n h).1 ≤ n
  | 0, h => Nat.le_refl _
  | n + 1, h => by
    unfold zLf
    split
    · exact Nat.zero_le _
    · split
      · exact Nat.zero_le _
      · exact Nat.succ_le_succ (zLf_n n _)
theorem zAm_le {P : Pl} {s : St} {p t : Nat} : zAm P 0 s p t ≤ 1000 := by
  have h1 : (zLl P s p t).1 ≤ 9 := by
    unfold zLl
    split
    · exact Nat.le_trans (zLf_n _ _) (zTm_le _ _ _ _ _)
    · exact Nat.zero_le _
  have h2 : ∀ s', (zLr P s' p t).1 ≤ 9 := by
    intro s'
    unfold zLr
    split
    · exact Nat.le_trans (zLf_n _ _) (zTm_le _ _ _ _ _)
    · exact Nat.zero_le _
  unfold zAm zMu
  split
  · have := h2 (zS1 P s p t)
    omega
  · omega
theorem ml_laysLifted {σ : FS} {P : Pl} {s : St} {Q : FS → Prop} (hP : mP σ P) (hN : mN σ P s) (hS : mSd σ) (h57 : fI σ 0 57 = nI 0) (h60 : fI σ 0 60 = nI 0) (hQ : ∀ σ', Fm (kAs ++ []) [53, 61] [108] σ σ' → mSd σ' → LfA σ' P s → Q σ') : mw_laysLifted σ Q := by
  have h7 := hP.1.2.2.2.2.1
  have h5 := hP.1.2.2.2.1
  unfold mw_laysLifted
  refine ml_thinkX [] [61] h60 (fun σ2 hT2 e52 hF2 => ?_)
  have hS2 : mSd σ2 := hS.eqv (hF2.1 56 (by decide))
  unfold mw_laysLifted_6
  intro X hX
  have key : ∀ m p (σ3 : FS), nP P - p = m → p ≤ nP P → Thx [] [61] 0 σ σ3 → fA σ3 52 = fA σ 52 → mSd σ3 → (∀ p' t, p' < p → t < nT P → fA σ3 61 (5 * p' + t) = nI (zAm P 0 s p' t)) → X (nI p) σ3 := by
    intro m
    induction m with
    | zero =>
      intro p σ3 hm hp hT3 e3 hS3 hW
      have hP3 := hT3.p hP (by decide) (by decide)
      have hpp : p = nP P := by omega
      subst hpp
      refine hX _ _ (ml_personMany hP3 ⟨fun _ => ?_, fun z => absurd ((nI_leI (by omega) (by omega)).mpr (by omega)) z⟩)
      refine ml_backX hT3 hS3 h57 h60 (fun σ4 hF4 hS4 ha4 hk4 => hQ σ4 hF4 hS4 (fun p t hp ht => ⟨by rw [ha4 61 (by decide)]; exact hW p t hp ht, zAm_le⟩))
    | succ m ih =>
      intro p σ3 hm hp hT3 e3 hS3 hW
      have hP3 := hT3.p hP (by decide) (by decide)
      have hpp : p < nP P := by omega
      refine hX _ _ (ml_personMany hP3 ⟨fun z => absurd ((nI_leI (by omega) (by omega)).mp z) (by omega), fun _ => ?_⟩)
      unfold mw_laysLifted_16
      intro Y hY
      have tops : ∀ j t (σ5 : FS), nT P - t = j → t ≤ nT P → Thx [] [61] 0 σ σ5 → fA σ5 52 = fA σ 52 → mSd σ5 → (∀ p' t', (p' < p ∧ t' < nT P) ∨ (p' = p ∧ t' < t) → fA σ5 61 (5 * p' + t') = nI (zAm P 0 s p' t')) → Y (nI p) (nI t) σ5 := by
        intro j
        induction j with
        | zero =>
          intro t σ5 hj ht hT5 e5 hS5 hc5
          have htt : t = nT P := by omega
          subst htt
          have hP5 := hT5.p hP (by decide) (by decide)
          refine hY _ _ _ (ml_topicMany hP5 ⟨fun _ => ?_, fun z => absurd ((nI_leI (by omega) (by omega)).mpr (by omega)) z⟩)
          simp (disch := omega) only [i_0, i_1, i_2, i_3, i_4, i_5, i_6, i_7, i_8, i_9, i_10, i_11, i_12, i_13, i_16, i_19, i_20, i_21, i_22, i_23, i_24, i_25, i_30, i_31, i_32, i_39, i_40, i_41, i_42, i_43, i_44, i_45, i_47, i_48, i_49, i_50, i_51, i_52, i_57, i_59, i_60, i_61, i_62, i_63, i_64, i_71, i_72, i_80, i_91, i_93, i_97, i_99, i_100, i_122, i_227, i_228, i_232, i_251, i_255, i_256, i_463, i_999, i_1000, i_1519, i_1600, i_9999, i_100000000, i_2147483639, i_2147483647, neg_nI1, nI_add, pk_mul, nI_remL, pk_sub, pk_div, nI_clamp, nI_leI, nI_ltI, nI_eq, vpT, nI_m1, m1_nI, nI_lem1, m1_le, m1_lt, nI_ltm1, nI_bit, nI_shl, nI_xor, nI_or, n_rem, forall_eq, true_and, and_true, implies_true, true_implies, false_implies, not_true_eq_false, not_false_eq_true, Nat.zero_add, Nat.add_zero, ite_true, ite_false, if_true, if_false, true_or, or_true, false_or, or_false, and_self, and_false, false_and, Nat.reduceEqDiff, reduceIte]
          refine ih (p + 1) σ5 (by omega) (by omega) hT5 e5 hS5 (fun p' t' hp' ht' => hc5 p' t' ?_)
          rcases Nat.lt_or_ge p' p with w | w
          · exact Or.inl ⟨w, ht'⟩
          · exact Or.inr ⟨by omega, ht'⟩
        | succ j ih2 =>
          intro t σ5 hj ht hT5 e5 hS5 hc5
          have htt : t < nT P := by omega
          have hP5 := hT5.p hP (by decide) (by decide)
          refine hY _ _ _ (ml_topicMany hP5 ⟨fun z => absurd ((nI_leI (by omega) (by omega)).mp z) (by omega), fun _ => ?_⟩)
          refine ml_isAsked (s := s) (th := 1) (sil := 0) hP5 (hN.eqv e5) hS5 hpp htt hT5.2.1 (by decide) hT5.2.2.1 (by decide) (fun z => by omega) (fun σ6 hF6 hN6 hS6 h59 _ => ?_)
          have hT6 := hT5.step hF6 (hN6.2.2 (by decide))
          simp (disch := omega) only [i_0, i_1, i_2, i_3, i_4, i_5, i_6, i_7, i_8, i_9, i_10, i_11, i_12, i_13, i_16, i_19, i_20, i_21, i_22, i_23, i_24, i_25, i_30, i_31, i_32, i_39, i_40, i_41, i_42, i_43, i_44, i_45, i_47, i_48, i_49, i_50, i_51, i_52, i_57, i_59, i_60, i_61, i_62, i_63, i_64, i_71, i_72, i_80, i_91, i_93, i_97, i_99, i_100, i_122, i_227, i_228, i_232, i_251, i_255, i_256, i_463, i_999, i_1000, i_1519, i_1600, i_9999, i_100000000, i_2147483639, i_2147483647, neg_nI1, nI_add, pk_mul, nI_remL, pk_sub, pk_div, nI_clamp, nI_leI, nI_ltI, nI_eq, vpT, nI_m1, m1_nI, nI_lem1, m1_le, m1_lt, nI_ltm1, nI_bit, nI_shl, nI_xor, nI_or, n_rem, forall_eq, true_and, and_true, implies_true, true_implies, false_implies, not_true_eq_false, not_false_eq_true, Nat.zero_add, Nat.add_zero, ite_true, ite_false, if_true, if_false, true_or, or_true, false_or, or_false, and_self, and_false, false_and, Nat.reduceEqDiff, reduceIte]
          rw [h59]
          have hT7 : Thx [] [61] 0 σ (sA σ6 61 (5 * p + t) (nI (zAm P 0 s p t))) := ⟨hT6.1.trans (Fm.sA σ6 _ _ (by decide)), hT6.2.1, hT6.2.2.1, fun k hk => by rw [fA_sA, if_neg (by omega)]; exact hT6.2.2.2.1 k hk, fun k hk => by rw [fA_sA, if_neg (by omega)]; exact hT6.2.2.2.2 k hk⟩
          refine ml_anewX hT7 (hS6.eqv rfl) (fun σ8 hT8 e8 hS8 hF8 => ?_)
          refine ih2 (t + 1) σ8 (by omega) (by omega) hT8 e8 hS8 (fun p' t' hh => ?_)
          rw [hF8.2.1 61 (by decide), fA_sA]
          by_cases z : 5 * p' + t' = 5 * p + t
          · have e1 : p' = p := by omega
            have e2 : t' = t := by omega
            rw [if_pos ⟨rfl, z⟩, e1, e2]
          · rw [if_neg (fun q => z q.2), hF6.2.1 61 (by decide)]
            refine hc5 p' t' ?_
            rcases hh with w | ⟨w1, w2⟩
            · exact Or.inl w
            · refine Or.inr ⟨w1, ?_⟩
              subst w1
              omega
      exact tops (nT P) 0 σ3 (by omega) (by omega) hT3 e3 hS3 (fun p' t' hh => by
        rcases hh with w | w
        · exact hW p' t' w.1 w.2
        · omega)
  exact key (nP P) 0 σ2 (by omega) (by omega) hT2 e52 hS2 (fun p' t hp => by omega)
