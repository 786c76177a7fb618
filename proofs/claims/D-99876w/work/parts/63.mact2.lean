/-! THE REFERENCE: acts, tape -/
/-- one number of a person changes in the land -/
theorem mN_put {σ : FS} {P : Pl} {s s' : St} {i v : Nat} (hN : mN σ P s) (hP : plOK P) (hs : stOK P s') (hi : 50 ≤ i ∧ i < 71) (hD : zD s' = zD s) (hH : zH s' = zH s) (hp : ∀ p, p < nP P → (if 50 + 3 * p = i then nI v else fA σ 52 (50 + 3 * p)) = nI (c7 (zA s' p)) ∧ (if 51 + 3 * p = i then nI v else fA σ 52 (51 + 3 * p)) = nI (zT s' p) ∧ (if 52 + 3 * p = i then nI v else fA σ 52 (52 + 3 * p)) = nI (zK s' p)) : mN (sA σ 52 i (nI v)) P s' := by
  have e : ∀ k, fA (sA σ 52 i (nI v)) 52 k = if k = i then nI v else fA σ 52 k := fun k => by
    rw [fA_sA]
    by_cases z : k = i
    · rw [if_pos ⟨rfl, z⟩, if_pos z]
    · rw [if_neg (fun q => z q.2), if_neg z]
  refine ⟨hs, ?_, fun c hc => ?_, fun p q => ?_⟩
  · rw [e, if_neg (by omega), hD]; exact hN.2.1
  · have := c7_lt hP hc
    rw [e, if_neg (by omega), hH]; exact hN.2.2.1 c hc
  · rw [e, e, e]; exact hp p q
theorem mKe_put {σ : FS} {l : List (Nat × Nat × Nat × Nat)} {i : Nat} {v : Int32} (h : mKe σ l) (hi : i < 71) : mKe (sA σ 52 i v) l := by
  refine mKf.eqv (f := fA σ 52) h (fun k hk _ => ?_)
  rw [fA_sA, if_neg (by omega)]
theorem mSd.eqv {σ σ' : FS} (h : mSd σ) (e : fI σ' 0 56 = fI σ 0 56) : mSd σ' := by
  obtain ⟨sd, q1, q2⟩ := h
  exact ⟨sd, q1, by rw [e]; exact q2⟩
theorem xor_lt {a t n : Nat} (ha : a < 2 ^ n) (ht : t < n) : a ^^^ 2 ^ t < 2 ^ n := Nat.xor_lt_two_pow ha (Nat.pow_lt_pow_right (by decide) ht)
theorem ma_teach {σ : FS} {Z : Wd} {x y o : Int32} {Q : Int32 → FS → Prop} (h : mAll σ Z) (hQ : ∀ σ', mAll σ' (opTeach Z x y o).2 → Q (opTeach Z x y o).1 σ') : mw_teach x y o σ Q := by
  have hA := h
  obtain ⟨h1, h2, h3, h4, h5, h6, h7, h8, h9, h10, h11, h12, h13, h14⟩ := h
  have hnp := h1.np
  unfold mw_teach mw_teach_40
  unfold opTeach at hQ
  refine ml_isPerson h5.pc h1.np.1 (fun p a b c => ?_) (fun a => ?_)
  · subst c
    have hP := h5.p (Or.inr (Or.inl (show 0 < nP (wP Z) by omega)))
    simp (disch := omega) only [i_0, i_1, i_2, i_3, i_4, i_5, i_6, i_7, i_8, i_9, i_10, i_11, i_12, i_13, i_16, i_19, i_20, i_21, i_22, i_23, i_24, i_25, i_30, i_31, i_32, i_39, i_40, i_41, i_42, i_43, i_44, i_45, i_47, i_48, i_49, i_50, i_51, i_52, i_57, i_59, i_60, i_61, i_62, i_63, i_64, i_71, i_72, i_80, i_91, i_93, i_97, i_99, i_100, i_122, i_227, i_228, i_232, i_251, i_255, i_256, i_463, i_999, i_1000, i_1519, i_1600, i_9999, i_100000000, i_2147483639, i_2147483647, neg_nI1, nI_add, pk_mul, nI_remL, pk_sub, pk_div, nI_clamp, nI_leI, nI_ltI, nI_eq, vpT, nI_m1, m1_nI, nI_lem1, m1_le, m1_lt, nI_ltm1, nI_bit, nI_shl, nI_xor, nI_or, n_rem, forall_eq, true_and, and_true, implies_true, true_implies, false_implies, not_true_eq_false, not_false_eq_true, Nat.zero_add, Nat.add_zero, ite_true, ite_false, if_true, if_false, true_or, or_true, false_or, or_false, and_self, and_false, false_and, Nat.reduceEqDiff, reduceIte]
    refine ml_isTopic h5.pc h1.np.2.1 (fun t a1 b1 c1 => ?_) (fun a1 => ?_)
    · subst c1
      simp (disch := omega) only [i_0, i_1, i_2, i_3, i_4, i_5, i_6, i_7, i_8, i_9, i_10, i_11, i_12, i_13, i_16, i_19, i_20, i_21, i_22, i_23, i_24, i_25, i_30, i_31, i_32, i_39, i_40, i_41, i_42, i_43, i_44, i_45, i_47, i_48, i_49, i_50, i_51, i_52, i_57, i_59, i_60, i_61, i_62, i_63, i_64, i_71, i_72, i_80, i_91, i_93, i_97, i_99, i_100, i_122, i_227, i_228, i_232, i_251, i_255, i_256, i_463, i_999, i_1000, i_1519, i_1600, i_9999, i_100000000, i_2147483639, i_2147483647, neg_nI1, nI_add, pk_mul, nI_remL, pk_sub, pk_div, nI_clamp, nI_leI, nI_ltI, nI_eq, vpT, nI_m1, m1_nI, nI_lem1, m1_le, m1_lt, nI_ltm1, nI_bit, nI_shl, nI_xor, nI_or, n_rem, forall_eq, true_and, and_true, implies_true, true_implies, false_implies, not_true_eq_false, not_false_eq_true, Nat.zero_add, Nat.add_zero, ite_true, ite_false, if_true, if_false, true_or, or_true, false_or, or_false, and_self, and_false, false_and, Nat.reduceEqDiff, reduceIte]
      refine ml_isIn (n := 2) (by decide) (by decide) (fun q a2 b2 c2 => ?_) (fun a2 => ?_)
      · subst c2
        simp only [a, a1, a2] at hQ
        simp (disch := omega) only [i_0, i_1, i_2, i_3, i_4, i_5, i_6, i_7, i_8, i_9, i_10, i_11, i_12, i_13, i_16, i_19, i_20, i_21, i_22, i_23, i_24, i_25, i_30, i_31, i_32, i_39, i_40, i_41, i_42, i_43, i_44, i_45, i_47, i_48, i_49, i_50, i_51, i_52, i_57, i_59, i_60, i_61, i_62, i_63, i_64, i_71, i_72, i_80, i_91, i_93, i_97, i_99, i_100, i_122, i_227, i_228, i_232, i_251, i_255, i_256, i_463, i_999, i_1000, i_1519, i_1600, i_9999, i_100000000, i_2147483639, i_2147483647, neg_nI1, nI_add, pk_mul, nI_remL, pk_sub, pk_div, nI_clamp, nI_leI, nI_ltI, nI_eq, vpT, nI_m1, m1_nI, nI_lem1, m1_le, m1_lt, nI_ltm1, nI_bit, nI_shl, nI_xor, nI_or, n_rem, forall_eq, true_and, and_true, implies_true, true_implies, false_implies, not_true_eq_false, not_false_eq_true, Nat.zero_add, Nat.add_zero, ite_true, ite_false, if_true, if_false, true_or, or_true, false_or, or_false, and_self, and_false, false_and, Nat.reduceEqDiff, reduceIte]
        refine ml_knowsOf hP h6 b ?_
        obtain ⟨hcell, hti, hkn⟩ := h6.1.2.2.1 p b
        have hk32 : zK (wS Z) p < 32 := Nat.lt_of_lt_of_le hkn (Nat.le_trans (Nat.pow_le_pow_right (by decide) hnp.2.1) (by decide))
        have hb2 : zK (wS Z) p / 2 ^ t % 2 < 2 := Nat.mod_lt _ (by decide)
        simp (disch := omega) only [i_0, i_1, i_2, i_3, i_4, i_5, i_6, i_7, i_8, i_9, i_10, i_11, i_12, i_13, i_16, i_19, i_20, i_21, i_22, i_23, i_24, i_25, i_30, i_31, i_32, i_39, i_40, i_41, i_42, i_43, i_44, i_45, i_47, i_48, i_49, i_50, i_51, i_52, i_57, i_59, i_60, i_61, i_62, i_63, i_64, i_71, i_72, i_80, i_91, i_93, i_97, i_99, i_100, i_122, i_227, i_228, i_232, i_251, i_255, i_256, i_463, i_999, i_1000, i_1519, i_1600, i_9999, i_100000000, i_2147483639, i_2147483647, neg_nI1, nI_add, pk_mul, nI_remL, pk_sub, pk_div, nI_clamp, nI_leI, nI_ltI, nI_eq, vpT, nI_m1, m1_nI, nI_lem1, m1_le, m1_lt, nI_ltm1, nI_bit, nI_shl, nI_xor, nI_or, n_rem, forall_eq, true_and, and_true, implies_true, true_implies, false_implies, not_true_eq_false, not_false_eq_true, Nat.zero_add, Nat.add_zero, ite_true, ite_false, if_true, if_false, true_or, or_true, false_or, or_false, and_self, and_false, false_and, Nat.reduceEqDiff, reduceIte]
        refine ⟨fun z => ?_, fun z => ?_⟩
        · rw [if_neg z] at hQ
          refine ml_stores hA (fun σ1 hA1 _ => ?_)
          have hN1 : mN σ1 (wP Z) (wS Z) := hA1.2.2.2.2.2.1
          have r1 := (hN1.2.2.2 p b).2.2
          rw [r1, nI_xor]
          have hsok : stOK (wP Z) (zD (wS Z), zH (wS Z), zA (wS Z), zT (wS Z), up (zK (wS Z)) p (zK (wS Z) p ^^^ 2 ^ t), zE (wS Z)) := by
            refine ⟨h6.1.1, h6.1.2.1, fun i hi => ⟨(h6.1.2.2.1 i hi).1, (h6.1.2.2.1 i hi).2.1, ?_⟩, h6.1.2.2.2⟩
            show up (zK (wS Z)) p _ i < _
            unfold up
            split
            · exact xor_lt hkn b1
            · exact (h6.1.2.2.1 i hi).2.2
          refine hQ _ (hA1.now (show zD (wS Z) ≤ 999 from h1.2.2.1) (Fm.sA σ1 _ _ (by decide)) (mN_put hN1 hP.1 hsok (by omega) rfl rfl (fun i hi => ?_)) (mKe_put hA1.2.2.2.2.2.2.1 (by omega)) (hA1.2.2.2.2.2.2.2.2.2.2.2.1.eqv rfl))
          obtain ⟨w1, w2, w3⟩ := hN1.2.2.2 i hi
          rw [if_neg (by omega), if_neg (by omega)]
          refine ⟨w1, w2, ?_⟩
          show _ = nI (up (zK (wS Z)) p _ i)
          unfold up
          by_cases z2 : i = p
          · subst z2; rw [if_pos rfl, if_pos rfl]
          · rw [if_neg (by omega), if_neg z2]; exact w3
        · rw [if_pos z] at hQ
          exact ml_isRefused hA (fun σ' hA' => ⟨nb_0, hQ σ' hA'⟩)
      · simp only [a, a1, a2] at hQ
        simp (disch := omega) only [i_0, i_1, i_2, i_3, i_4, i_5, i_6, i_7, i_8, i_9, i_10, i_11, i_12, i_13, i_16, i_19, i_20, i_21, i_22, i_23, i_24, i_25, i_30, i_31, i_32, i_39, i_40, i_41, i_42, i_43, i_44, i_45, i_47, i_48, i_49, i_50, i_51, i_52, i_57, i_59, i_60, i_61, i_62, i_63, i_64, i_71, i_72, i_80, i_91, i_93, i_97, i_99, i_100, i_122, i_227, i_228, i_232, i_251, i_255, i_256, i_463, i_999, i_1000, i_1519, i_1600, i_9999, i_100000000, i_2147483639, i_2147483647, neg_nI1, nI_add, pk_mul, nI_remL, pk_sub, pk_div, nI_clamp, nI_leI, nI_ltI, nI_eq, vpT, nI_m1, m1_nI, nI_lem1, m1_le, m1_lt, nI_ltm1, nI_bit, nI_shl, nI_xor, nI_or, n_rem, forall_eq, true_and, and_true, implies_true, true_implies, false_implies, not_true_eq_false, not_false_eq_true, Nat.zero_add, Nat.add_zero, ite_true, ite_false, if_true, if_false, true_or, or_true, false_or, or_false, and_self, and_false, false_and, Nat.reduceEqDiff, reduceIte]
        exact ml_isRefused hA (fun σ' hA' => ⟨nb_0, hQ σ' hA'⟩)
    · simp only [a, a1] at hQ
      simp (disch := omega) only [i_0, i_1, i_2, i_3, i_4, i_5, i_6, i_7, i_8, i_9, i_10, i_11, i_12, i_13, i_16, i_19, i_20, i_21, i_22, i_23, i_24, i_25, i_30, i_31, i_32, i_39, i_40, i_41, i_42, i_43, i_44, i_45, i_47, i_48, i_49, i_50, i_51, i_52, i_57, i_59, i_60, i_61, i_62, i_63, i_64, i_71, i_72, i_80, i_91, i_93, i_97, i_99, i_100, i_122, i_227, i_228, i_232, i_251, i_255, i_256, i_463, i_999, i_1000, i_1519, i_1600, i_9999, i_100000000, i_2147483639, i_2147483647, neg_nI1, nI_add, pk_mul, nI_remL, pk_sub, pk_div, nI_clamp, nI_leI, nI_ltI, nI_eq, vpT, nI_m1, m1_nI, nI_lem1, m1_le, m1_lt, nI_ltm1, nI_bit, nI_shl, nI_xor, nI_or, n_rem, forall_eq, true_and, and_true, implies_true, true_implies, false_implies, not_true_eq_false, not_false_eq_true, Nat.zero_add, Nat.add_zero, ite_true, ite_false, if_true, if_false, true_or, or_true, false_or, or_false, and_self, and_false, false_and, Nat.reduceEqDiff, reduceIte]
      exact ml_isRefused hA (fun σ' hA' => ⟨nb_0, hQ σ' hA'⟩)
  · simp only [a] at hQ
    simp (disch := omega) only [i_0, i_1, i_2, i_3, i_4, i_5, i_6, i_7, i_8, i_9, i_10, i_11, i_12, i_13, i_16, i_19, i_20, i_21, i_22, i_23, i_24, i_25, i_30, i_31, i_32, i_39, i_40, i_41, i_42, i_43, i_44, i_45, i_47, i_48, i_49, i_50, i_51, i_52, i_57, i_59, i_60, i_61, i_62, i_63, i_64, i_71, i_72, i_80, i_91, i_93, i_97, i_99, i_100, i_122, i_227, i_228, i_232, i_251, i_255, i_256, i_463, i_999, i_1000, i_1519, i_1600, i_9999, i_100000000, i_2147483639, i_2147483647, neg_nI1, nI_add, pk_mul, nI_remL, pk_sub, pk_div, nI_clamp, nI_leI, nI_ltI, nI_eq, vpT, nI_m1, m1_nI, nI_lem1, m1_le, m1_lt, nI_ltm1, nI_bit, nI_shl, nI_xor, nI_or, n_rem, forall_eq, true_and, and_true, implies_true, true_implies, false_implies, not_true_eq_false, not_false_eq_true, Nat.zero_add, Nat.add_zero, ite_true, ite_false, if_true, if_false, true_or, or_true, false_or, or_false, and_self, and_false, false_and, Nat.reduceEqDiff, reduceIte]
    exact ml_isRefused hA (fun σ' hA' => ⟨nb_0, hQ σ' hA'⟩)
theorem ma_ease {σ : FS} {Z : Wd} {x : Int32} {Q : Int32 → FS → Prop} (h : mAll σ Z) (hQ : ∀ σ', mAll σ' (opEase Z x).2 → Q (opEase Z x).1 σ') : mw_ease x σ Q := by
  have hA := h
  obtain ⟨h1, h2, h3, h4, h5, h6, h7, h8, h9, h10, h11, h12, h13, h14⟩ := h
  have hnp := h1.np
  unfold mw_ease mw_ease_16
  unfold opEase at hQ
  refine ml_isPerson h5.pc h1.np.1 (fun p a b c => ?_) (fun a => ?_)
  · subst c
    simp only [a] at hQ
    have hP := h5.p (Or.inr (Or.inl (show 0 < nP (wP Z) by omega)))
    simp (disch := omega) only [i_0, i_1, i_2, i_3, i_4, i_5, i_6, i_7, i_8, i_9, i_10, i_11, i_12, i_13, i_16, i_19, i_20, i_21, i_22, i_23, i_24, i_25, i_30, i_31, i_32, i_39, i_40, i_41, i_42, i_43, i_44, i_45, i_47, i_48, i_49, i_50, i_51, i_52, i_57, i_59, i_60, i_61, i_62, i_63, i_64, i_71, i_72, i_80, i_91, i_93, i_97, i_99, i_100, i_122, i_227, i_228, i_232, i_251, i_255, i_256, i_463, i_999, i_1000, i_1519, i_1600, i_9999, i_100000000, i_2147483639, i_2147483647, neg_nI1, nI_add, pk_mul, nI_remL, pk_sub, pk_div, nI_clamp, nI_leI, nI_ltI, nI_eq, vpT, nI_m1, m1_nI, nI_lem1, m1_le, m1_lt, nI_ltm1, nI_bit, nI_shl, nI_xor, nI_or, n_rem, forall_eq, true_and, and_true, implies_true, true_implies, false_implies, not_true_eq_false, not_false_eq_true, Nat.zero_add, Nat.add_zero, ite_true, ite_false, if_true, if_false, true_or, or_true, false_or, or_false, and_self, and_false, false_and, Nat.reduceEqDiff, reduceIte]
    refine ml_tiredOf hP h6 b ?_
    obtain ⟨hcell, hti, hkn⟩ := h6.1.2.2.1 p b
    simp (disch := omega) only [i_0, i_1, i_2, i_3, i_4, i_5, i_6, i_7, i_8, i_9, i_10, i_11, i_12, i_13, i_16, i_19, i_20, i_21, i_22, i_23, i_24, i_25, i_30, i_31, i_32, i_39, i_40, i_41, i_42, i_43, i_44, i_45, i_47, i_48, i_49, i_50, i_51, i_52, i_57, i_59, i_60, i_61, i_62, i_63, i_64, i_71, i_72, i_80, i_91, i_93, i_97, i_99, i_100, i_122, i_227, i_228, i_232, i_251, i_255, i_256, i_463, i_999, i_1000, i_1519, i_1600, i_9999, i_100000000, i_2147483639, i_2147483647, neg_nI1, nI_add, pk_mul, nI_remL, pk_sub, pk_div, nI_clamp, nI_leI, nI_ltI, nI_eq, vpT, nI_m1, m1_nI, nI_lem1, m1_le, m1_lt, nI_ltm1, nI_bit, nI_shl, nI_xor, nI_or, n_rem, forall_eq, true_and, and_true, implies_true, true_implies, false_implies, not_true_eq_false, not_false_eq_true, Nat.zero_add, Nat.add_zero, ite_true, ite_false, if_true, if_false, true_or, or_true, false_or, or_false, and_self, and_false, false_and, Nat.reduceEqDiff, reduceIte]
    refine ⟨fun z => ?_, fun z => ?_⟩
    · rw [if_neg z] at hQ
      refine ml_stores hA (fun σ1 hA1 _ => ?_)
      have hN1 : mN σ1 (wP Z) (wS Z) := hA1.2.2.2.2.2.1
      have hsok : stOK (wP Z) (zD (wS Z), zH (wS Z), zA (wS Z), up (zT (wS Z)) p 0, zK (wS Z), zE (wS Z)) := by
        refine ⟨h6.1.1, h6.1.2.1, fun i hi => ⟨(h6.1.2.2.1 i hi).1, ?_, (h6.1.2.2.1 i hi).2.2⟩, h6.1.2.2.2⟩
        show up (zT (wS Z)) p _ i ≤ _
        unfold up
        split
        · omega
        · exact (h6.1.2.2.1 i hi).2.1
      refine hQ _ (hA1.now (show zD (wS Z) ≤ 999 from h1.2.2.1) (Fm.sA σ1 _ _ (by decide)) (mN_put hN1 hP.1 hsok (by omega) rfl rfl (fun i hi => ?_)) (mKe_put hA1.2.2.2.2.2.2.1 (by omega)) (hA1.2.2.2.2.2.2.2.2.2.2.2.1.eqv rfl))
      obtain ⟨w1, w2, w3⟩ := hN1.2.2.2 i hi
      rw [if_neg (by omega), if_neg (show ¬ 52 + 3 * i = 51 + 3 * p by omega)]
      refine ⟨w1, ?_, w3⟩
      show _ = nI (up (zT (wS Z)) p _ i)
      unfold up
      by_cases z2 : i = p
      · subst z2; rw [if_pos rfl, if_pos rfl]
      · rw [if_neg (by omega), if_neg z2]; exact w2
    · rw [if_pos z] at hQ
      exact ml_isRefused hA (fun σ' hA' => ⟨nb_0, hQ σ' hA'⟩)
  · simp only [a] at hQ
    simp (disch := omega) only [i_0, i_1, i_2, i_3, i_4, i_5, i_6, i_7, i_8, i_9, i_10, i_11, i_12, i_13, i_16, i_19, i_20, i_21, i_22, i_23, i_24, i_25, i_30, i_31, i_32, i_39, i_40, i_41, i_42, i_43, i_44, i_45, i_47, i_48, i_49, i_50, i_51, i_52, i_57, i_59, i_60, i_61, i_62, i_63, i_64, i_71, i_72, i_80, i_91, i_93, i_97, i_99, i_100, i_122, i_227, i_228, i_232, i_251, i_255, i_256, i_463, i_999, i_1000, i_1519, i_1600, i_9999, i_100000000, i_2147483639, i_2147483647, neg_nI1, nI_add, pk_mul, nI_remL, pk_sub, pk_div, nI_clamp, nI_leI, nI_ltI, nI_eq, vpT, nI_m1, m1_nI, nI_lem1, m1_le, m1_lt, nI_ltm1, nI_bit, nI_shl, nI_xor, nI_or, n_rem, forall_eq, true_and, and_true, implies_true, true_implies, false_implies, not_true_eq_false, not_false_eq_true, Nat.zero_add, Nat.add_zero, ite_true, ite_false, if_true, if_false, true_or, or_true, false_or, or_false, and_self, and_false, false_and, Nat.reduceEqDiff, reduceIte]
    exact ml_isRefused hA (fun σ' hA' => ⟨nb_0, hQ σ' hA'⟩)
theorem ml_isTaken {σ : FS} {P : Pl} {s : St} {c : Nat} {Q : Int32 → FS → Prop} (hP : mP σ P) (hN : mN σ P s) (hc : isC P c) (hQ : Q (nI (if freeS P s c = true then 0 else 1)) σ) : mw_isTaken (nI (c7 c)) σ Q := by
  have h7 := hP.1.2.2.2.2.1
  have hcl := isC_lt hP.1 hc
  have hc7 := c7_lt hP.1 hc
  unfold mw_isTaken mw_isTaken_2
  intro X hX
  have key : ∀ j k, nP P - k = j → k ≤ nP P → (∀ p, p < k → zA s p ≠ c) → X (nI (c7 c)) (nI k) σ := by
    intro j
    induction j with
    | zero =>
      intro k hj hk hp
      refine hX _ _ _ (ml_personMany hP ⟨fun _ => ?_, fun z => absurd (?_ : nI (nP P) ≤ nI k) z⟩)
      · have : freeS P s c = true := by
          unfold freeS
          rw [List.all_eq_true]
          intro p hpm
          have := hp p (by have := List.mem_range.mp hpm; omega)
          simpa using this
        rw [this] at hQ
        exact hQ
      · rw [nI_leI (by omega) (by omega)]; omega
    | succ j ih =>
      intro k hj hk hp
      have hkk : k < nP P := by omega
      obtain ⟨hcell, -, -⟩ := hN.1.2.2.1 k hkk
      have hl2 := isC_lt hP.1 hcell
      have h72 := c7_lt hP.1 hcell
      refine hX _ _ _ (ml_personMany hP ⟨fun z => ?_, fun _ => ml_cellOf hP hN hkk ?_⟩)
      · rw [nI_leI (by omega) (by omega)] at z; omega
      · rw [nI_eq (by omega) (by omega)]
        refine ⟨fun z => ?_, fun z => ?_⟩
        · rw [nI_1]
          refine ih (k + 1) (by omega) (by omega) (fun p hpk => ?_)
          rcases Nat.lt_or_ge p k with q | q
          · exact hp p q
          · have : p = k := by omega
            subst this
            exact fun e => z (by rw [e])
        · have e := c7_inj hl2.1 hcl.1 z
          have : freeS P s c = false := by
            unfold freeS
            rw [List.all_eq_false]
            exact ⟨k, List.mem_range.mpr hkk, by simp [e]⟩
          rw [this] at hQ
          exact hQ
  exact key _ 0 rfl (by omega) (fun p h => by omega)
theorem ma_go {σ : FS} {Z : Wd} {x y r : Int32} {Q : Int32 → FS → Prop} (h : mAll σ Z) (hQ : ∀ σ', mAll σ' (opGo Z x y r).2 → Q (opGo Z x y r).1 σ') : mw_go x y r σ Q := by
  have hA := h
  obtain ⟨h1, h2, h3, h4, h5, h6, h7, h8, h9, h10, h11, h12, h13, h14⟩ := h
  have hnp := h1.np
  unfold mw_go mw_go_31
  unfold opGo at hQ
  refine ml_cellAt h5 (fun c a1 b1 d1 => ?_) (fun a1 => ?_)
  · have h49 := c7_lt b1.1 d1
    simp (disch := omega) only [i_0, i_1, i_2, i_3, i_4, i_5, i_6, i_7, i_8, i_9, i_10, i_11, i_12, i_13, i_16, i_19, i_20, i_21, i_22, i_23, i_24, i_25, i_30, i_31, i_32, i_39, i_40, i_41, i_42, i_43, i_44, i_45, i_47, i_48, i_49, i_50, i_51, i_52, i_57, i_59, i_60, i_61, i_62, i_63, i_64, i_71, i_72, i_80, i_91, i_93, i_97, i_99, i_100, i_122, i_227, i_228, i_232, i_251, i_255, i_256, i_463, i_999, i_1000, i_1519, i_1600, i_9999, i_100000000, i_2147483639, i_2147483647, neg_nI1, nI_add, pk_mul, nI_remL, pk_sub, pk_div, nI_clamp, nI_leI, nI_ltI, nI_eq, vpT, nI_m1, m1_nI, nI_lem1, m1_le, m1_lt, nI_ltm1, nI_bit, nI_shl, nI_xor, nI_or, n_rem, forall_eq, true_and, and_true, implies_true, true_implies, false_implies, not_true_eq_false, not_false_eq_true, Nat.zero_add, Nat.add_zero, ite_true, ite_false, if_true, if_false, true_or, or_true, false_or, or_false, and_self, and_false, false_and, Nat.reduceEqDiff, reduceIte]
    refine ml_isPerson h5.pc h1.np.1 (fun p a b c2 => ?_) (fun a => ?_)
    · subst c2
      simp only [a, a1] at hQ
      simp (disch := omega) only [i_0, i_1, i_2, i_3, i_4, i_5, i_6, i_7, i_8, i_9, i_10, i_11, i_12, i_13, i_16, i_19, i_20, i_21, i_22, i_23, i_24, i_25, i_30, i_31, i_32, i_39, i_40, i_41, i_42, i_43, i_44, i_45, i_47, i_48, i_49, i_50, i_51, i_52, i_57, i_59, i_60, i_61, i_62, i_63, i_64, i_71, i_72, i_80, i_91, i_93, i_97, i_99, i_100, i_122, i_227, i_228, i_232, i_251, i_255, i_256, i_463, i_999, i_1000, i_1519, i_1600, i_9999, i_100000000, i_2147483639, i_2147483647, neg_nI1, nI_add, pk_mul, nI_remL, pk_sub, pk_div, nI_clamp, nI_leI, nI_ltI, nI_eq, vpT, nI_m1, m1_nI, nI_lem1, m1_le, m1_lt, nI_ltm1, nI_bit, nI_shl, nI_xor, nI_or, n_rem, forall_eq, true_and, and_true, implies_true, true_implies, false_implies, not_true_eq_false, not_false_eq_true, Nat.zero_add, Nat.add_zero, ite_true, ite_false, if_true, if_false, true_or, or_true, false_or, or_false, and_self, and_false, false_and, Nat.reduceEqDiff, reduceIte]
      refine ml_isTaken b1 h6 d1 ?_
      by_cases z : freeS (wP Z) (wS Z) c = true
      · rw [if_pos z] at hQ ⊢
        simp (disch := omega) only [i_0, i_1, i_2, i_3, i_4, i_5, i_6, i_7, i_8, i_9, i_10, i_11, i_12, i_13, i_16, i_19, i_20, i_21, i_22, i_23, i_24, i_25, i_30, i_31, i_32, i_39, i_40, i_41, i_42, i_43, i_44, i_45, i_47, i_48, i_49, i_50, i_51, i_52, i_57, i_59, i_60, i_61, i_62, i_63, i_64, i_71, i_72, i_80, i_91, i_93, i_97, i_99, i_100, i_122, i_227, i_228, i_232, i_251, i_255, i_256, i_463, i_999, i_1000, i_1519, i_1600, i_9999, i_100000000, i_2147483639, i_2147483647, neg_nI1, nI_add, pk_mul, nI_remL, pk_sub, pk_div, nI_clamp, nI_leI, nI_ltI, nI_eq, vpT, nI_m1, m1_nI, nI_lem1, m1_le, m1_lt, nI_ltm1, nI_bit, nI_shl, nI_xor, nI_or, n_rem, forall_eq, true_and, and_true, implies_true, true_implies, false_implies, not_true_eq_false, not_false_eq_true, Nat.zero_add, Nat.add_zero, ite_true, ite_false, if_true, if_false, true_or, or_true, false_or, or_false, and_self, and_false, false_and, Nat.reduceEqDiff, reduceIte]
        refine ml_stores hA (fun σ1 hA1 _ => ?_)
        have hN1 : mN σ1 (wP Z) (wS Z) := hA1.2.2.2.2.2.1
        have hsok : stOK (wP Z) (zD (wS Z), zH (wS Z), up (zA (wS Z)) p c, zT (wS Z), zK (wS Z), zE (wS Z)) := by
          refine ⟨h6.1.1, h6.1.2.1, fun i hi => ⟨?_, (h6.1.2.2.1 i hi).2⟩, h6.1.2.2.2⟩
          show isC _ (up (zA (wS Z)) p _ i)
          unfold up
          split
          · exact d1
          · exact (h6.1.2.2.1 i hi).1
        refine hQ _ (hA1.now (show zD (wS Z) ≤ 999 from h1.2.2.1) (Fm.sA σ1 _ _ (by decide)) (mN_put hN1 b1.1 hsok (by omega) rfl rfl (fun i hi => ?_)) (mKe_put hA1.2.2.2.2.2.2.1 (by omega)) (hA1.2.2.2.2.2.2.2.2.2.2.2.1.eqv rfl))
        obtain ⟨w1, w2, w3⟩ := hN1.2.2.2 i hi
        rw [if_neg (show ¬ 51 + 3 * i = 50 + 3 * p by omega), if_neg (show ¬ 52 + 3 * i = 50 + 3 * p by omega)]
        refine ⟨?_, w2, w3⟩
        show _ = nI (c7 (up (zA (wS Z)) p _ i))
        unfold up
        by_cases z2 : i = p
        · subst z2; rw [if_pos rfl, if_pos rfl]
        · rw [if_neg (by omega), if_neg z2]; exact w1
      · rw [if_neg z] at hQ ⊢
        simp (disch := omega) only [i_0, i_1, i_2, i_3, i_4, i_5, i_6, i_7, i_8, i_9, i_10, i_11, i_12, i_13, i_16, i_19, i_20, i_21, i_22, i_23, i_24, i_25, i_30, i_31, i_32, i_39, i_40, i_41, i_42, i_43, i_44, i_45, i_47, i_48, i_49, i_50, i_51, i_52, i_57, i_59, i_60, i_61, i_62, i_63, i_64, i_71, i_72, i_80, i_91, i_93, i_97, i_99, i_100, i_122, i_227, i_228, i_232, i_251, i_255, i_256, i_463, i_999, i_1000, i_1519, i_1600, i_9999, i_100000000, i_2147483639, i_2147483647, neg_nI1, nI_add, pk_mul, nI_remL, pk_sub, pk_div, nI_clamp, nI_leI, nI_ltI, nI_eq, vpT, nI_m1, m1_nI, nI_lem1, m1_le, m1_lt, nI_ltm1, nI_bit, nI_shl, nI_xor, nI_or, n_rem, forall_eq, true_and, and_true, implies_true, true_implies, false_implies, not_true_eq_false, not_false_eq_true, Nat.zero_add, Nat.add_zero, ite_true, ite_false, if_true, if_false, true_or, or_true, false_or, or_false, and_self, and_false, false_and, Nat.reduceEqDiff, reduceIte]
        exact ml_isRefused hA (fun σ' hA' => ⟨nb_0, hQ σ' hA'⟩)
    · simp only [a] at hQ
      simp (disch := omega) only [i_0, i_1, i_2, i_3, i_4, i_5, i_6, i_7, i_8, i_9, i_10, i_11, i_12, i_13, i_16, i_19, i_20, i_21, i_22, i_23, i_24, i_25, i_30, i_31, i_32, i_39, i_40, i_41, i_42, i_43, i_44, i_45, i_47, i_48, i_49, i_50, i_51, i_52, i_57, i_59, i_60, i_61, i_62, i_63, i_64, i_71, i_72, i_80, i_91, i_93, i_97, i_99, i_100, i_122, i_227, i_228, i_232, i_251, i_255, i_256, i_463, i_999, i_1000, i_1519, i_1600, i_9999, i_100000000, i_2147483639, i_2147483647, neg_nI1, nI_add, pk_mul, nI_remL, pk_sub, pk_div, nI_clamp, nI_leI, nI_ltI, nI_eq, vpT, nI_m1, m1_nI, nI_lem1, m1_le, m1_lt, nI_ltm1, nI_bit, nI_shl, nI_xor, nI_or, n_rem, forall_eq, true_and, and_true, implies_true, true_implies, false_implies, not_true_eq_false, not_false_eq_true, Nat.zero_add, Nat.add_zero, ite_true, ite_false, if_true, if_false, true_or, or_true, false_or, or_false, and_self, and_false, false_and, Nat.reduceEqDiff, reduceIte]
      exact ml_isRefused hA (fun σ' hA' => ⟨nb_0, hQ σ' hA'⟩)
  · have hQ' : ∀ σ', mAll σ' (putRf Z 2) → Q (nI 0) σ' := by cases hx : ix x (nP (wP Z)) <;> simpa only [hx, a1] using hQ
    simp (disch := omega) only [i_0, i_1, i_2, i_3, i_4, i_5, i_6, i_7, i_8, i_9, i_10, i_11, i_12, i_13, i_16, i_19, i_20, i_21, i_22, i_23, i_24, i_25, i_30, i_31, i_32, i_39, i_40, i_41, i_42, i_43, i_44, i_45, i_47, i_48, i_49, i_50, i_51, i_52, i_57, i_59, i_60, i_61, i_62, i_63, i_64, i_71, i_72, i_80, i_91, i_93, i_97, i_99, i_100, i_122, i_227, i_228, i_232, i_251, i_255, i_256, i_463, i_999, i_1000, i_1519, i_1600, i_9999, i_100000000, i_2147483639, i_2147483647, neg_nI1, nI_add, pk_mul, nI_remL, pk_sub, pk_div, nI_clamp, nI_leI, nI_ltI, nI_eq, vpT, nI_m1, m1_nI, nI_lem1, m1_le, m1_lt, nI_ltm1, nI_bit, nI_shl, nI_xor, nI_or, n_rem, forall_eq, true_and, and_true, implies_true, true_implies, false_implies, not_true_eq_false, not_false_eq_true, Nat.zero_add, Nat.add_zero, ite_true, ite_false, if_true, if_false, true_or, or_true, false_or, or_false, and_self, and_false, false_and, Nat.reduceEqDiff, reduceIte]
    exact ml_isRefused hA (fun σ' hA' => ⟨nb_0, hQ' σ' hA'⟩)
theorem ma_days {σ : FS} {Z : Wd} {n : Int32} {Q : Int32 → FS → Prop} (h : mAll σ Z) (hQ : ∀ σ', mAll σ' (opDays Z n).2 → Q (opDays Z n).1 σ') : mw_days n σ Q := by
  have hA := h
  obtain ⟨h1, h2, h3, h4, h5, h6, h7, h8, h9, h10, h11, h12, h13, h14⟩ := h
  unfold mw_days
  unfold opDays at hQ
  refine ml_isAhead (lo := 1) (hi := 100) h5 h6 (by have := h1.2.2.1; omega) (by decide) (by decide) (fun j a1 b0 d0 b1 c1 d1 => ?_) (fun a1 => ?_)
  · subst c1
    simp only [a1] at hQ
    simp (disch := omega) only [i_0, i_1, i_2, i_3, i_4, i_5, i_6, i_7, i_8, i_9, i_10, i_11, i_12, i_13, i_16, i_19, i_20, i_21, i_22, i_23, i_24, i_25, i_30, i_31, i_32, i_39, i_40, i_41, i_42, i_43, i_44, i_45, i_47, i_48, i_49, i_50, i_51, i_52, i_57, i_59, i_60, i_61, i_62, i_63, i_64, i_71, i_72, i_80, i_91, i_93, i_97, i_99, i_100, i_122, i_227, i_228, i_232, i_251, i_255, i_256, i_463, i_999, i_1000, i_1519, i_1600, i_9999, i_100000000, i_2147483639, i_2147483647, neg_nI1, nI_add, pk_mul, nI_remL, pk_sub, pk_div, nI_clamp, nI_leI, nI_ltI, nI_eq, vpT, nI_m1, m1_nI, nI_lem1, m1_le, m1_lt, nI_ltm1, nI_bit, nI_shl, nI_xor, nI_or, n_rem, forall_eq, true_and, and_true, implies_true, true_implies, false_implies, not_true_eq_false, not_false_eq_true, Nat.zero_add, Nat.add_zero, ite_true, ite_false, if_true, if_false, true_or, or_true, false_or, or_false, and_self, and_false, false_and, Nat.reduceEqDiff, reduceIte]
    refine ml_stores hA (fun σ1 hA1 _ => ?_)
    have hP1 := hA1.2.2.2.2.1.p (Or.inl (show 0 < plC (wP Z) by have := b0.1.1; omega))
    have hF0 : Fm kAs [52] [108] σ1 (sI σ1 0 58 (nI 0)) := Fm.sI σ1 _ (by decide)
    refine ml_daysGo (s := wS Z) (th := 0) (sil := 0) (by omega) (hP1.fm hF0 (by decide) (by decide) (by decide)) (hA1.2.2.2.2.2.1.eqv rfl) (hA1.2.2.2.2.2.2.2.2.2.2.2.1.eqv rfl) (by omega) (by rw [hF0.1 57 (by decide)]; exact hA1.2.2.2.2.2.2.2.2.2.2.2.2.1.1) (by decide) (by rw [hF0.1 60 (by decide)]; exact hA1.2.2.2.2.2.2.2.2.2.2.2.2.1.2) (by decide) (fun _ => hA1.2.2.2.2.2.2.1) (fun σ2 hF2 hN2 hS2 h58 => ?_)
    have hd : zD (zDs (wP Z) 0 j (wS Z)) ≤ 999 := by rw [(zDs_ok b0.1 j 0 (wS Z) h6.1 (by omega)).2]; omega
    have e58 : fI σ2 0 58 = nI (zDn (wP Z) 0 j (wS Z)) := by
      rw [h58, fI_sI, if_pos ⟨rfl, rfl⟩, nI_add, Nat.zero_add]; rfl
    rw [e58]
    exact hQ σ2 (hA1.now hd (hF0.trans hF2) hN2.1 (hN2.2.1 rfl hA1.2.2.2.2.2.2.1) hS2)
  · simp only [a1] at hQ
    simp (disch := omega) only [i_0, i_1, i_2, i_3, i_4, i_5, i_6, i_7, i_8, i_9, i_10, i_11, i_12, i_13, i_16, i_19, i_20, i_21, i_22, i_23, i_24, i_25, i_30, i_31, i_32, i_39, i_40, i_41, i_42, i_43, i_44, i_45, i_47, i_48, i_49, i_50, i_51, i_52, i_57, i_59, i_60, i_61, i_62, i_63, i_64, i_71, i_72, i_80, i_91, i_93, i_97, i_99, i_100, i_122, i_227, i_228, i_232, i_251, i_255, i_256, i_463, i_999, i_1000, i_1519, i_1600, i_9999, i_100000000, i_2147483639, i_2147483647, neg_nI1, nI_add, pk_mul, nI_remL, pk_sub, pk_div, nI_clamp, nI_leI, nI_ltI, nI_eq, vpT, nI_m1, m1_nI, nI_lem1, m1_le, m1_lt, nI_ltm1, nI_bit, nI_shl, nI_xor, nI_or, n_rem, forall_eq, true_and, and_true, implies_true, true_implies, false_implies, not_true_eq_false, not_false_eq_true, Nat.zero_add, Nat.add_zero, ite_true, ite_false, if_true, if_false, true_or, or_true, false_or, or_false, and_self, and_false, false_and, Nat.reduceEqDiff, reduceIte]
    exact ml_refuses hA (by decide) hQ
