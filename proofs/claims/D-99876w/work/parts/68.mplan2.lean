/-! THE REFERENCE: plans of two and three -/
/-- the third asking: from the land s2 -/
theorem ml_isThird {σ0 σ : FS} {P : Pl} {s s2 : St} {u hh st : Nat} {Q : Int32 → FS → Prop} (hP : mP σ0 P) (h09 : zH s st ≤ 99) (hT : Thx kPl aPl 0 σ0 σ) (hN : mN σ P s2) (hS : mSd σ) (hq : mPq σ s u hh st) (hu : isC P u) (hst : isC P st) (hh9 : hh ≤ 99)
    (hs : ∀ σ' i, planP P s u hh st 1 s2 = some [i] → Thx kPl aPl 0 σ0 σ' → mSd σ' → fA σ' 62 0 = fA σ 62 0 → fA σ' 62 1 = fA σ 62 1 → fA σ' 62 2 = nI i → Q (nI 1) σ') (h0 : ∀ σ', planP P s u hh st 1 s2 = none → Thx kPl aPl 0 σ0 σ' → mSd σ' → mPq σ' s u hh st → fA σ' 62 0 = fA σ 62 0 → fA σ' 62 1 = fA σ 62 1 → fA σ' 63 = fA σ 63 → Q (nI 0) σ') : mw_isThird σ Q := by
  have h35 := nn_le hP.1
  unfold mw_isThird
  refine ml_isThird_2 (fun σ1 hF1 hc1 ho1 => ?_)
  have hT1 := hT.arr hF1 (by decide) (by decide) (by decide)
  unfold mw_isThird_28
  intro X hX
  have key : ∀ n k (σ2 : FS), nP P * nT P - k = n → k ≤ nP P * nT P → ((List.range (nP P * nT P)).drop k).findSome? (fun i => if shI P s2 i = 2 then (planP P s u hh st 0 (asI P s2 i)).map (fun l => i :: l) else none) = planP P s u hh st 1 s2 → Thx kPl aPl 0 σ0 σ2 → mN σ2 P s2 → mNf (fA σ2 64) P s2 → mSd σ2 → mPq σ2 s u hh st → fA σ2 62 0 = fA σ 62 0 → fA σ2 62 1 = fA σ 62 1 → fA σ2 63 = fA σ 63 → X (nI k) σ2 := by
    intro n
    induction n with
    | zero =>
      intro k σ2 hn hk he hT2 hN2 hA2 hS2 hq2 r0 r1 r3
      have hP2 := hT2.p hP (by decide) (by decide)
      refine hX _ _ (ml_askingMany hP2 ⟨fun _ => h0 σ2 ?_ hT2 hS2 hq2 r0 r1 r3, fun z => absurd ((nI_leI (by omega) (by omega)).mpr (by omega)) z⟩)
      rw [← he, rng_end (by omega)]; rfl
    | succ n ih =>
      intro k σ2 hn hk he hT2 hN2 hA2 hS2 hq2 r0 r1 r3
      have hP2 := hT2.p hP (by decide) (by decide)
      rw [rng_at (by omega), List.findSome?_cons] at he
      refine hX _ _ (ml_askingMany hP2 ⟨fun z => absurd ((nI_leI (by omega) (by omega)).mp z) (by omega), fun _ => ?_⟩)
      simp (disch := omega) only [i_0, i_1, i_2, i_3, i_4, i_5, i_6, i_7, i_8, i_9, i_10, i_11, i_12, i_13, i_16, i_19, i_20, i_21, i_22, i_23, i_24, i_25, i_30, i_31, i_32, i_39, i_40, i_41, i_42, i_43, i_44, i_45, i_47, i_48, i_49, i_50, i_51, i_52, i_57, i_59, i_60, i_61, i_62, i_63, i_64, i_71, i_72, i_80, i_91, i_93, i_97, i_99, i_100, i_122, i_227, i_228, i_232, i_251, i_255, i_256, i_463, i_999, i_1000, i_1519, i_1600, i_9999, i_100000000, i_2147483639, i_2147483647, neg_nI1, nI_add, pk_mul, nI_remL, pk_sub, pk_div, nI_clamp, nI_leI, nI_ltI, nI_eq, vpT, nI_m1, m1_nI, nI_lem1, m1_le, m1_lt, nI_ltm1, nI_bit, nI_shl, nI_xor, nI_or, n_rem, forall_eq, true_and, and_true, implies_true, true_implies, false_implies, not_true_eq_false, not_false_eq_true, Nat.zero_add, Nat.add_zero, ite_true, ite_false, if_true, if_false, true_or, or_true, false_or, or_false, and_self, and_false, false_and, Nat.reduceEqDiff, reduceIte]
      have hFa : Fm [] [62] [] σ2 (sA σ2 62 2 (nI k)) := Fm.sA σ2 _ _ (by decide)
      have hT3 := hT2.arr hFa (by decide) (by decide) (by decide)
      have hP3 := hT3.p hP (by decide) (by decide)
      refine ml_doesShrug hP3 (hN2.eqv (hFa.2.1 52 (by decide))) (hS2.eqv rfl) hT3.2.1 hT3.2.2.1 (by omega) (fun σ4 hF4 hN4 hS4 => ?_)
      have hT4 := hT3.step hF4 (hN4.2.2 (by decide))
      have e62 : ∀ j, fA σ4 62 j = if j = 2 then nI k else fA σ2 62 j := fun j => by
        rw [hF4.2.1 62 (by decide), fA_sA]
        by_cases q : j = 2
        · rw [if_pos ⟨rfl, q⟩, if_pos q]
        · rw [if_neg (fun z => q z.2), if_neg q]
      have e64 : fA σ4 64 = fA σ2 64 := by rw [hF4.2.1 64 (by decide), hFa.2.1 64 (by decide)]
      have e63 : fA σ4 63 = fA σ2 63 := by rw [hF4.2.1 63 (by decide), hFa.2.1 63 (by decide)]
      have hq4 := (hq2.fm hFa (by decide)).fm hF4 (by decide)
      have next : ((List.range (nP P * nT P)).drop (k + 1)).findSome? (fun i => if shI P s2 i = 2 then (planP P s u hh st 0 (asI P s2 i)).map (fun l => i :: l) else none) = planP P s u hh st 1 s2 → mw_isThird_60 X (nI k) σ4 Q := by
        intro he2
        unfold mw_isThird_60
        refine ml_isThird_62 (fun σ5 hF5 hc5 ho5 => ?_)
        rw [nI_1]
        refine ih (k + 1) σ5 (by omega) (by omega) he2 (hT4.cp hF5 ho5) ⟨hN.1, mNf_cp hP.1 hA2 (fun j hj => by rw [hc5 j hj, e64])⟩ (by rw [hF5.2.1 64 (by decide), e64]; exact hA2) (hS4.eqv (hF5.1 56 (by decide))) (hq4.fm hF5 (by decide)) ?_ ?_ ?_
        · rw [hF5.2.1 62 (by decide), e62, if_neg (by omega)]; exact r0
        · rw [hF5.2.1 62 (by decide), e62, if_neg (by omega)]; exact r1
        · rw [hF5.2.1 63 (by decide), e63]; exact r3
      by_cases z : shI P s2 k = 2
      · rw [if_pos z] at he ⊢
        simp (disch := omega) only [i_0, i_1, i_2, i_3, i_4, i_5, i_6, i_7, i_8, i_9, i_10, i_11, i_12, i_13, i_16, i_19, i_20, i_21, i_22, i_23, i_24, i_25, i_30, i_31, i_32, i_39, i_40, i_41, i_42, i_43, i_44, i_45, i_47, i_48, i_49, i_50, i_51, i_52, i_57, i_59, i_60, i_61, i_62, i_63, i_64, i_71, i_72, i_80, i_91, i_93, i_97, i_99, i_100, i_122, i_227, i_228, i_232, i_251, i_255, i_256, i_463, i_999, i_1000, i_1519, i_1600, i_9999, i_100000000, i_2147483639, i_2147483647, neg_nI1, nI_add, pk_mul, nI_remL, pk_sub, pk_div, nI_clamp, nI_leI, nI_ltI, nI_eq, vpT, nI_m1, m1_nI, nI_lem1, m1_le, m1_lt, nI_ltm1, nI_bit, nI_shl, nI_xor, nI_or, n_rem, forall_eq, true_and, and_true, implies_true, true_implies, false_implies, not_true_eq_false, not_false_eq_true, Nat.zero_add, Nat.add_zero, ite_true, ite_false, if_true, if_false, true_or, or_true, false_or, or_false, and_self, and_false, false_and, Nat.reduceEqDiff, reduceIte]
        refine ml_isSo (hT4.p hP (by decide) (by decide)) hN4.1 hq4 hu hst hh9 h09 ?_
        simp only [planP] at he
        by_cases z2 : soS s u hh st (asI P s2 k) = true
        · rw [if_pos z2] at he ⊢
          simp (disch := omega) only [i_0, i_1, i_2, i_3, i_4, i_5, i_6, i_7, i_8, i_9, i_10, i_11, i_12, i_13, i_16, i_19, i_20, i_21, i_22, i_23, i_24, i_25, i_30, i_31, i_32, i_39, i_40, i_41, i_42, i_43, i_44, i_45, i_47, i_48, i_49, i_50, i_51, i_52, i_57, i_59, i_60, i_61, i_62, i_63, i_64, i_71, i_72, i_80, i_91, i_93, i_97, i_99, i_100, i_122, i_227, i_228, i_232, i_251, i_255, i_256, i_463, i_999, i_1000, i_1519, i_1600, i_9999, i_100000000, i_2147483639, i_2147483647, neg_nI1, nI_add, pk_mul, nI_remL, pk_sub, pk_div, nI_clamp, nI_leI, nI_ltI, nI_eq, vpT, nI_m1, m1_nI, nI_lem1, m1_le, m1_lt, nI_ltm1, nI_bit, nI_shl, nI_xor, nI_or, n_rem, forall_eq, true_and, and_true, implies_true, true_implies, false_implies, not_true_eq_false, not_false_eq_true, Nat.zero_add, Nat.add_zero, ite_true, ite_false, if_true, if_false, true_or, or_true, false_or, or_false, and_self, and_false, false_and, Nat.reduceEqDiff, reduceIte]
          refine hs σ4 k ?_ hT4 hS4 (by rw [e62, if_neg (by omega)]; exact r0) (by rw [e62, if_neg (by omega)]; exact r1) (by rw [e62, if_pos rfl])
          simp only [Option.map_some] at he
          exact he.symm
        · rw [if_neg z2] at he ⊢
          simp (disch := omega) only [i_0, i_1, i_2, i_3, i_4, i_5, i_6, i_7, i_8, i_9, i_10, i_11, i_12, i_13, i_16, i_19, i_20, i_21, i_22, i_23, i_24, i_25, i_30, i_31, i_32, i_39, i_40, i_41, i_42, i_43, i_44, i_45, i_47, i_48, i_49, i_50, i_51, i_52, i_57, i_59, i_60, i_61, i_62, i_63, i_64, i_71, i_72, i_80, i_91, i_93, i_97, i_99, i_100, i_122, i_227, i_228, i_232, i_251, i_255, i_256, i_463, i_999, i_1000, i_1519, i_1600, i_9999, i_100000000, i_2147483639, i_2147483647, neg_nI1, nI_add, pk_mul, nI_remL, pk_sub, pk_div, nI_clamp, nI_leI, nI_ltI, nI_eq, vpT, nI_m1, m1_nI, nI_lem1, m1_le, m1_lt, nI_ltm1, nI_bit, nI_shl, nI_xor, nI_or, n_rem, forall_eq, true_and, and_true, implies_true, true_implies, false_implies, not_true_eq_false, not_false_eq_true, Nat.zero_add, Nat.add_zero, ite_true, ite_false, if_true, if_false, true_or, or_true, false_or, or_false, and_self, and_false, false_and, Nat.reduceEqDiff, reduceIte]
          exact next he
      · rw [if_neg z] at he ⊢
        simp (disch := omega) only [i_0, i_1, i_2, i_3, i_4, i_5, i_6, i_7, i_8, i_9, i_10, i_11, i_12, i_13, i_16, i_19, i_20, i_21, i_22, i_23, i_24, i_25, i_30, i_31, i_32, i_39, i_40, i_41, i_42, i_43, i_44, i_45, i_47, i_48, i_49, i_50, i_51, i_52, i_57, i_59, i_60, i_61, i_62, i_63, i_64, i_71, i_72, i_80, i_91, i_93, i_97, i_99, i_100, i_122, i_227, i_228, i_232, i_251, i_255, i_256, i_463, i_999, i_1000, i_1519, i_1600, i_9999, i_100000000, i_2147483639, i_2147483647, neg_nI1, nI_add, pk_mul, nI_remL, pk_sub, pk_div, nI_clamp, nI_leI, nI_ltI, nI_eq, vpT, nI_m1, m1_nI, nI_lem1, m1_le, m1_lt, nI_ltm1, nI_bit, nI_shl, nI_xor, nI_or, n_rem, forall_eq, true_and, and_true, implies_true, true_implies, false_implies, not_true_eq_false, not_false_eq_true, Nat.zero_add, Nat.add_zero, ite_true, ite_false, if_true, if_false, true_or, or_true, false_or, or_false, and_self, and_false, false_and, Nat.reduceEqDiff, reduceIte]
        exact next he
  exact key _ 0 σ1 rfl (by omega) rfl hT1 (hN.eqv (hF1.2.1 52 (by decide))) (mNf_cp hP.1 hN.2 hc1) (hS.eqv (hF1.1 56 (by decide))) (hq.fm hF1 (by decide)) (by rw [hF1.2.1 62 (by decide)]) (by rw [hF1.2.1 62 (by decide)]) (hF1.2.1 63 (by decide))
theorem planP_len {P : Pl} {s0 : St} {u hh st : Nat} : ∀ (n : Nat) (s : St) (l : List Nat), planP P s0 u hh st n s = some l → l.length = n ∧ ∀ i ∈ l, i < nP P * nT P
  | 0, s, l, h => by
    simp only [planP] at h
    split at h
    · cases h; exact ⟨rfl, fun i hi => by cases hi⟩
    · cases h
  | n + 1, s, l, h => by
    simp only [planP] at h
    obtain ⟨i, hi, h2⟩ := List.exists_of_findSome?_eq_some h
    split at h2
    · cases h3 : planP P s0 u hh st n (asI P s i) with
      | none => rw [h3] at h2; cases h2
      | some l' =>
        rw [h3] at h2
        cases h2
        obtain ⟨a, b⟩ := planP_len n _ l' h3
        refine ⟨by simp [a], fun j hj => ?_⟩
        rcases List.mem_cons.mp hj with rfl | hj
        · exact List.mem_range.mp hi
        · exact b j hj
    · cases h2
-- BELOW
theorem ml_isTwo {σ0 σ : FS} {P : Pl} {s : St} {u hh st : Nat} {Q : Int32 → FS → Prop} (hP : mP σ0 P) (hN : mN σ0 P s) (hT : Thx kPl aPl 0 σ0 σ) (e52 : fA σ 52 = fA σ0 52) (hS : mSd σ) (hq : mPq σ s u hh st) (hu : isC P u) (hst : isC P st) (hh9 : hh ≤ 99)
    (hs : ∀ σ' l, planP P s u hh st 2 s = some l → Thx kPl aPl 0 σ0 σ' → mSd σ' → (∀ (j : Nat) i, l[j]? = some i → fA σ' 62 j = nI i) → Q (nI 1) σ') (h0 : ∀ σ', planP P s u hh st 2 s = none → Thx kPl aPl 0 σ0 σ' → fA σ' 52 = fA σ0 52 → mSd σ' → mPq σ' s u hh st → Q (nI 0) σ') : mw_isTwo σ Q := by
  have h35 := nn_le hP.1
  have h09 := hN.1.2.1 st hst
  unfold mw_isTwo mw_isTwo_2
  intro X hX
  have key : ∀ n k (σ1 : FS), nP P * nT P - k = n → k ≤ nP P * nT P → ((List.range (nP P * nT P)).drop k).findSome? (fun i => if shI P s i = 2 then (planP P s u hh st 1 (asI P s i)).map (fun l => i :: l) else none) = planP P s u hh st 2 s → Thx kPl aPl 0 σ0 σ1 → fA σ1 52 = fA σ0 52 → mSd σ1 → mPq σ1 s u hh st → X (nI k) σ1 := by
    intro n
    induction n with
    | zero =>
      intro k σ1 hn hk he hT1 e1 hS1 hq1
      have hP1 := hT1.p hP (by decide) (by decide)
      refine hX _ _ (ml_askingMany hP1 ⟨fun _ => h0 σ1 ?_ hT1 e1 hS1 hq1, fun z => absurd ((nI_leI (by omega) (by omega)).mpr (by omega)) z⟩)
      rw [← he, rng_end (by omega)]; rfl
    | succ n ih =>
      intro k σ1 hn hk he hT1 e1 hS1 hq1
      have hP1 := hT1.p hP (by decide) (by decide)
      rw [rng_at (by omega), List.findSome?_cons] at he
      refine hX _ _ (ml_askingMany hP1 ⟨fun z => absurd ((nI_leI (by omega) (by omega)).mp z) (by omega), fun _ => ?_⟩)
      simp (disch := omega) only [i_0, i_1, i_2, i_3, i_4, i_5, i_6, i_7, i_8, i_9, i_10, i_11, i_12, i_13, i_16, i_19, i_20, i_21, i_22, i_23, i_24, i_25, i_30, i_31, i_32, i_39, i_40, i_41, i_42, i_43, i_44, i_45, i_47, i_48, i_49, i_50, i_51, i_52, i_57, i_59, i_60, i_61, i_62, i_63, i_64, i_71, i_72, i_80, i_91, i_93, i_97, i_99, i_100, i_122, i_227, i_228, i_232, i_251, i_255, i_256, i_463, i_999, i_1000, i_1519, i_1600, i_9999, i_100000000, i_2147483639, i_2147483647, neg_nI1, nI_add, pk_mul, nI_remL, pk_sub, pk_div, nI_clamp, nI_leI, nI_ltI, nI_eq, vpT, nI_m1, m1_nI, nI_lem1, m1_le, m1_lt, nI_ltm1, nI_bit, nI_shl, nI_xor, nI_or, n_rem, forall_eq, true_and, and_true, implies_true, true_implies, false_implies, not_true_eq_false, not_false_eq_true, Nat.zero_add, Nat.add_zero, ite_true, ite_false, if_true, if_false, true_or, or_true, false_or, or_false, and_self, and_false, false_and, Nat.reduceEqDiff, reduceIte]
      have hFa : Fm [] [62] [] σ1 (sA σ1 62 0 (nI k)) := Fm.sA σ1 _ _ (by decide)
      have hT2 := hT1.arr hFa (by decide) (by decide) (by decide)
      have hP2 := hT2.p hP (by decide) (by decide)
      refine ml_doesShrug hP2 (hN.eqv (by rw [hFa.2.1 52 (by decide)]; exact e1)) (hS1.eqv rfl) hT2.2.1 hT2.2.2.1 (by omega) (fun σ3 hF3 hN3 hS3 => ?_)
      have hT3 := hT2.step hF3 (hN3.2.2 (by decide))
      have e62 : fA σ3 62 0 = nI k := by rw [hF3.2.1 62 (by decide), fA_sA, if_pos ⟨rfl, rfl⟩]
      have hq3 := (hq1.fm hFa (by decide)).fm hF3 (by decide)
      refine ml_isTwo_25 (fun σ4 hF4 hc4 ho4 => ?_)
      have hT4 := hT3.arr hF4 (by decide) (by decide) (by decide)
      have next : ∀ σ5, ((List.range (nP P * nT P)).drop (k + 1)).findSome? (fun i => if shI P s i = 2 then (planP P s u hh st 1 (asI P s i)).map (fun l => i :: l) else none) = planP P s u hh st 2 s → Thx kPl aPl 0 σ0 σ5 → mSd σ5 → mPq σ5 s u hh st → mw_isTwo_123 X (nI k) σ5 Q := by
        intro σ5 he2 hT5 hS5 hq5
        unfold mw_isTwo_123
        refine ml_anewX hT5 hS5 (fun σ6 hT6 e6 hS6 hF6 => ?_)
        rw [nI_1]
        exact ih (k + 1) σ6 (by omega) (by omega) he2 hT6 e6 hS6 (hq5.fm hF6 (by decide))
      unfold mw_isTwo_51
      intro Y hY
      by_cases z : shI P s k = 2
      · rw [if_pos z] at he ⊢
        have inner : ∀ n2 k2 (σ5 : FS), nP P * nT P - k2 = n2 → k2 ≤ nP P * nT P → ((List.range (nP P * nT P)).drop k2).findSome? (fun i => if shI P (asI P s k) i = 2 then (planP P s u hh st 0 (asI P (asI P s k) i)).map (fun l => i :: l) else none) = planP P s u hh st 1 (asI P s k) → Thx kPl aPl 0 σ0 σ5 → mN σ5 P (asI P s k) → mNf (fA σ5 63) P (asI P s k) → mSd σ5 → mPq σ5 s u hh st → fA σ5 62 0 = nI k → Y (nI k) (nI 1) (nI k2) σ5 := by
          intro n2
          induction n2 with
          | zero =>
            intro k2 σ5 hn2 hk2 he2 hT5 hN5 hA5 hS5 hq5 r0
            have hP5 := hT5.p hP (by decide) (by decide)
            refine hY _ _ _ _ (ml_askingMany hP5 ⟨fun _ => next σ5 ?_ hT5 hS5 hq5, fun z => absurd ((nI_leI (by omega) (by omega)).mpr (by omega)) z⟩)
            rw [rng_end (by omega)] at he2
            rw [← he2] at he
            exact he
          | succ n2 ih2 =>
            intro k2 σ5 hn2 hk2 he2 hT5 hN5 hA5 hS5 hq5 r0
            have hP5 := hT5.p hP (by decide) (by decide)
            rw [rng_at (by omega), List.findSome?_cons] at he2
            refine hY _ _ _ _ (ml_askingMany hP5 ⟨fun z => absurd ((nI_leI (by omega) (by omega)).mp z) (by omega), fun _ => ?_⟩)
            simp (disch := omega) only [i_0, i_1, i_2, i_3, i_4, i_5, i_6, i_7, i_8, i_9, i_10, i_11, i_12, i_13, i_16, i_19, i_20, i_21, i_22, i_23, i_24, i_25, i_30, i_31, i_32, i_39, i_40, i_41, i_42, i_43, i_44, i_45, i_47, i_48, i_49, i_50, i_51, i_52, i_57, i_59, i_60, i_61, i_62, i_63, i_64, i_71, i_72, i_80, i_91, i_93, i_97, i_99, i_100, i_122, i_227, i_228, i_232, i_251, i_255, i_256, i_463, i_999, i_1000, i_1519, i_1600, i_9999, i_100000000, i_2147483639, i_2147483647, neg_nI1, nI_add, pk_mul, nI_remL, pk_sub, pk_div, nI_clamp, nI_leI, nI_ltI, nI_eq, vpT, nI_m1, m1_nI, nI_lem1, m1_le, m1_lt, nI_ltm1, nI_bit, nI_shl, nI_xor, nI_or, n_rem, forall_eq, true_and, and_true, implies_true, true_implies, false_implies, not_true_eq_false, not_false_eq_true, Nat.zero_add, Nat.add_zero, ite_true, ite_false, if_true, if_false, true_or, or_true, false_or, or_false, and_self, and_false, false_and, Nat.reduceEqDiff, reduceIte]
            have hFb : Fm [] [62] [] σ5 (sA σ5 62 1 (nI k2)) := Fm.sA σ5 _ _ (by decide)
            have hT6 := hT5.arr hFb (by decide) (by decide) (by decide)
            have hP6 := hT6.p hP (by decide) (by decide)
            refine ml_doesShrug hP6 (hN5.eqv (hFb.2.1 52 (by decide))) (hS5.eqv rfl) hT6.2.1 hT6.2.2.1 (by omega) (fun σ7 hF7 hN7 hS7 => ?_)
            have hT7 := hT6.step hF7 (hN7.2.2 (by decide))
            have r0' : fA σ7 62 0 = nI k := by rw [hF7.2.1 62 (by decide), fA_sA, if_neg (by omega)]; exact r0
            have r1' : fA σ7 62 1 = nI k2 := by rw [hF7.2.1 62 (by decide), fA_sA, if_pos ⟨rfl, rfl⟩]
            have e63 : fA σ7 63 = fA σ5 63 := by rw [hF7.2.1 63 (by decide), hFb.2.1 63 (by decide)]
            have hq7 := (hq5.fm hFb (by decide)).fm hF7 (by decide)
            have next2 : ∀ σ8, ((List.range (nP P * nT P)).drop (k2 + 1)).findSome? (fun i => if shI P (asI P s k) i = 2 then (planP P s u hh st 0 (asI P (asI P s k) i)).map (fun l => i :: l) else none) = planP P s u hh st 1 (asI P s k) → Thx kPl aPl 0 σ0 σ8 → mSd σ8 → mPq σ8 s u hh st → fA σ8 62 0 = nI k → fA σ8 63 = fA σ5 63 → mw_isTwo_87 X Y (nI k) (nI 1) (nI k2) σ8 Q := by
              intro σ8 he3 hT8 hS8 hq8 w0 w63
              unfold mw_isTwo_87
              refine ml_isTwo_90 (fun σ9 hF9 hc9 ho9 => ?_)
              rw [nI_1]
              exact ih2 (k2 + 1) σ9 (by omega) (by omega) he3 (hT8.cp hF9 ho9) ⟨hN5.1, mNf_cp hP.1 hA5 (fun j hj => by rw [hc9 j hj, w63])⟩ (by rw [hF9.2.1 63 (by decide), w63]; exact hA5) (hS8.eqv (hF9.1 56 (by decide))) (hq8.fm hF9 (by decide)) (by rw [hF9.2.1 62 (by decide)]; exact w0)
            by_cases z2 : shI P (asI P s k) k2 = 2
            · rw [if_pos z2] at he2 ⊢
              simp (disch := omega) only [i_0, i_1, i_2, i_3, i_4, i_5, i_6, i_7, i_8, i_9, i_10, i_11, i_12, i_13, i_16, i_19, i_20, i_21, i_22, i_23, i_24, i_25, i_30, i_31, i_32, i_39, i_40, i_41, i_42, i_43, i_44, i_45, i_47, i_48, i_49, i_50, i_51, i_52, i_57, i_59, i_60, i_61, i_62, i_63, i_64, i_71, i_72, i_80, i_91, i_93, i_97, i_99, i_100, i_122, i_227, i_228, i_232, i_251, i_255, i_256, i_463, i_999, i_1000, i_1519, i_1600, i_9999, i_100000000, i_2147483639, i_2147483647, neg_nI1, nI_add, pk_mul, nI_remL, pk_sub, pk_div, nI_clamp, nI_leI, nI_ltI, nI_eq, vpT, nI_m1, m1_nI, nI_lem1, m1_le, m1_lt, nI_ltm1, nI_bit, nI_shl, nI_xor, nI_or, n_rem, forall_eq, true_and, and_true, implies_true, true_implies, false_implies, not_true_eq_false, not_false_eq_true, Nat.zero_add, Nat.add_zero, ite_true, ite_false, if_true, if_false, true_or, or_true, false_or, or_false, and_self, and_false, false_and, Nat.reduceEqDiff, reduceIte]
              refine ml_isSo (hT7.p hP (by decide) (by decide)) hN7.1 hq7 hu hst hh9 h09 ?_
              simp only [planP] at he2
              by_cases z3 : soS s u hh st (asI P (asI P s k) k2) = true
              · rw [if_pos z3] at he2 ⊢
                simp (disch := omega) only [i_0, i_1, i_2, i_3, i_4, i_5, i_6, i_7, i_8, i_9, i_10, i_11, i_12, i_13, i_16, i_19, i_20, i_21, i_22, i_23, i_24, i_25, i_30, i_31, i_32, i_39, i_40, i_41, i_42, i_43, i_44, i_45, i_47, i_48, i_49, i_50, i_51, i_52, i_57, i_59, i_60, i_61, i_62, i_63, i_64, i_71, i_72, i_80, i_91, i_93, i_97, i_99, i_100, i_122, i_227, i_228, i_232, i_251, i_255, i_256, i_463, i_999, i_1000, i_1519, i_1600, i_9999, i_100000000, i_2147483639, i_2147483647, neg_nI1, nI_add, pk_mul, nI_remL, pk_sub, pk_div, nI_clamp, nI_leI, nI_ltI, nI_eq, vpT, nI_m1, m1_nI, nI_lem1, m1_le, m1_lt, nI_ltm1, nI_bit, nI_shl, nI_xor, nI_or, n_rem, forall_eq, true_and, and_true, implies_true, true_implies, false_implies, not_true_eq_false, not_false_eq_true, Nat.zero_add, Nat.add_zero, ite_true, ite_false, if_true, if_false, true_or, or_true, false_or, or_false, and_self, and_false, false_and, Nat.reduceEqDiff, reduceIte]
                simp only [Option.map_some] at he2
                have he2' : planP P s u hh st 1 (asI P s k) = some [k2] := he2.symm
                rw [he2'] at he
                simp only [Option.map_some] at he
                refine hs σ7 [k, k2] he.symm hT7 hS7 (fun j i hj => ?_)
                match j, hj with
                | 0, hj => cases hj; exact r0'
                | 1, hj => cases hj; exact r1'
                | j + 2, hj => simp at hj
              · rw [if_neg z3] at he2 ⊢
                simp (disch := omega) only [i_0, i_1, i_2, i_3, i_4, i_5, i_6, i_7, i_8, i_9, i_10, i_11, i_12, i_13, i_16, i_19, i_20, i_21, i_22, i_23, i_24, i_25, i_30, i_31, i_32, i_39, i_40, i_41, i_42, i_43, i_44, i_45, i_47, i_48, i_49, i_50, i_51, i_52, i_57, i_59, i_60, i_61, i_62, i_63, i_64, i_71, i_72, i_80, i_91, i_93, i_97, i_99, i_100, i_122, i_227, i_228, i_232, i_251, i_255, i_256, i_463, i_999, i_1000, i_1519, i_1600, i_9999, i_100000000, i_2147483639, i_2147483647, neg_nI1, nI_add, pk_mul, nI_remL, pk_sub, pk_div, nI_clamp, nI_leI, nI_ltI, nI_eq, vpT, nI_m1, m1_nI, nI_lem1, m1_le, m1_lt, nI_ltm1, nI_bit, nI_shl, nI_xor, nI_or, n_rem, forall_eq, true_and, and_true, implies_true, true_implies, false_implies, not_true_eq_false, not_false_eq_true, Nat.zero_add, Nat.add_zero, ite_true, ite_false, if_true, if_false, true_or, or_true, false_or, or_false, and_self, and_false, false_and, Nat.reduceEqDiff, reduceIte]
                exact next2 σ7 he2 hT7 hS7 hq7 r0' e63
            · rw [if_neg z2] at he2 ⊢
              simp (disch := omega) only [i_0, i_1, i_2, i_3, i_4, i_5, i_6, i_7, i_8, i_9, i_10, i_11, i_12, i_13, i_16, i_19, i_20, i_21, i_22, i_23, i_24, i_25, i_30, i_31, i_32, i_39, i_40, i_41, i_42, i_43, i_44, i_45, i_47, i_48, i_49, i_50, i_51, i_52, i_57, i_59, i_60, i_61, i_62, i_63, i_64, i_71, i_72, i_80, i_91, i_93, i_97, i_99, i_100, i_122, i_227, i_228, i_232, i_251, i_255, i_256, i_463, i_999, i_1000, i_1519, i_1600, i_9999, i_100000000, i_2147483639, i_2147483647, neg_nI1, nI_add, pk_mul, nI_remL, pk_sub, pk_div, nI_clamp, nI_leI, nI_ltI, nI_eq, vpT, nI_m1, m1_nI, nI_lem1, m1_le, m1_lt, nI_ltm1, nI_bit, nI_shl, nI_xor, nI_or, n_rem, forall_eq, true_and, and_true, implies_true, true_implies, false_implies, not_true_eq_false, not_false_eq_true, Nat.zero_add, Nat.add_zero, ite_true, ite_false, if_true, if_false, true_or, or_true, false_or, or_false, and_self, and_false, false_and, Nat.reduceEqDiff, reduceIte]
              exact next2 σ7 he2 hT7 hS7 hq7 r0' e63
        exact inner _ 0 σ4 rfl (by omega) rfl hT4 (hN3.1.eqv (hF4.2.1 52 (by decide))) (mNf_cp hP.1 hN3.1.2 hc4) (hS3.eqv (hF4.1 56 (by decide))) (hq3.fm hF4 (by decide)) (by rw [hF4.2.1 62 (by decide)]; exact e62)
      · rw [if_neg z] at he ⊢
        have hP4 := hT4.p hP (by decide) (by decide)
        have fin := next σ4 he hT4 (hS3.eqv (hF4.1 56 (by decide))) (hq3.fm hF4 (by decide))
        refine hY _ _ _ _ (ml_askingMany hP4 ⟨fun _ => fin, fun _ => ?_⟩)
        simp (disch := omega) only [i_0, i_1, i_2, i_3, i_4, i_5, i_6, i_7, i_8, i_9, i_10, i_11, i_12, i_13, i_16, i_19, i_20, i_21, i_22, i_23, i_24, i_25, i_30, i_31, i_32, i_39, i_40, i_41, i_42, i_43, i_44, i_45, i_47, i_48, i_49, i_50, i_51, i_52, i_57, i_59, i_60, i_61, i_62, i_63, i_64, i_71, i_72, i_80, i_91, i_93, i_97, i_99, i_100, i_122, i_227, i_228, i_232, i_251, i_255, i_256, i_463, i_999, i_1000, i_1519, i_1600, i_9999, i_100000000, i_2147483639, i_2147483647, neg_nI1, nI_add, pk_mul, nI_remL, pk_sub, pk_div, nI_clamp, nI_leI, nI_ltI, nI_eq, vpT, nI_m1, m1_nI, nI_lem1, m1_le, m1_lt, nI_ltm1, nI_bit, nI_shl, nI_xor, nI_or, n_rem, forall_eq, true_and, and_true, implies_true, true_implies, false_implies, not_true_eq_false, not_false_eq_true, Nat.zero_add, Nat.add_zero, ite_true, ite_false, if_true, if_false, true_or, or_true, false_or, or_false, and_self, and_false, false_and, Nat.reduceEqDiff, reduceIte]
        exact fin
  exact key _ 0 σ rfl (by omega) rfl hT e52 hS hq
theorem ml_isThree {σ0 σ : FS} {P : Pl} {s : St} {u hh st : Nat} {Q : Int32 → FS → Prop} (hP : mP σ0 P) (hN : mN σ0 P s) (hT : Thx kPl aPl 0 σ0 σ) (e52 : fA σ 52 = fA σ0 52) (hS : mSd σ) (hq : mPq σ s u hh st) (hu : isC P u) (hst : isC P st) (hh9 : hh ≤ 99)
    (hs : ∀ σ' l, planP P s u hh st 3 s = some l → Thx kPl aPl 0 σ0 σ' → mSd σ' → (∀ (j : Nat) i, l[j]? = some i → fA σ' 62 j = nI i) → Q (nI 1) σ') (h0 : ∀ σ', planP P s u hh st 3 s = none → Thx kPl aPl 0 σ0 σ' → fA σ' 52 = fA σ0 52 → mSd σ' → mPq σ' s u hh st → Q (nI 0) σ') : mw_isThree σ Q := by
  have h35 := nn_le hP.1
  have h09 := hN.1.2.1 st hst
  unfold mw_isThree mw_isThree_2
  intro X hX
  have key : ∀ n k (σ1 : FS), nP P * nT P - k = n → k ≤ nP P * nT P → ((List.range (nP P * nT P)).drop k).findSome? (fun i => if shI P s i = 2 then (planP P s u hh st 2 (asI P s i)).map (fun l => i :: l) else none) = planP P s u hh st 3 s → Thx kPl aPl 0 σ0 σ1 → fA σ1 52 = fA σ0 52 → mSd σ1 → mPq σ1 s u hh st → X (nI k) σ1 := by
    intro n
    induction n with
    | zero =>
      intro k σ1 hn hk he hT1 e1 hS1 hq1
      have hP1 := hT1.p hP (by decide) (by decide)
      refine hX _ _ (ml_askingMany hP1 ⟨fun _ => h0 σ1 ?_ hT1 e1 hS1 hq1, fun z => absurd ((nI_leI (by omega) (by omega)).mpr (by omega)) z⟩)
      rw [← he, rng_end (by omega)]; rfl
    | succ n ih =>
      intro k σ1 hn hk he hT1 e1 hS1 hq1
      have hP1 := hT1.p hP (by decide) (by decide)
      rw [rng_at (by omega), List.findSome?_cons] at he
      refine hX _ _ (ml_askingMany hP1 ⟨fun z => absurd ((nI_leI (by omega) (by omega)).mp z) (by omega), fun _ => ?_⟩)
      simp (disch := omega) only [i_0, i_1, i_2, i_3, i_4, i_5, i_6, i_7, i_8, i_9, i_10, i_11, i_12, i_13, i_16, i_19, i_20, i_21, i_22, i_23, i_24, i_25, i_30, i_31, i_32, i_39, i_40, i_41, i_42, i_43, i_44, i_45, i_47, i_48, i_49, i_50, i_51, i_52, i_57, i_59, i_60, i_61, i_62, i_63, i_64, i_71, i_72, i_80, i_91, i_93, i_97, i_99, i_100, i_122, i_227, i_228, i_232, i_251, i_255, i_256, i_463, i_999, i_1000, i_1519, i_1600, i_9999, i_100000000, i_2147483639, i_2147483647, neg_nI1, nI_add, pk_mul, nI_remL, pk_sub, pk_div, nI_clamp, nI_leI, nI_ltI, nI_eq, vpT, nI_m1, m1_nI, nI_lem1, m1_le, m1_lt, nI_ltm1, nI_bit, nI_shl, nI_xor, nI_or, n_rem, forall_eq, true_and, and_true, implies_true, true_implies, false_implies, not_true_eq_false, not_false_eq_true, Nat.zero_add, Nat.add_zero, ite_true, ite_false, if_true, if_false, true_or, or_true, false_or, or_false, and_self, and_false, false_and, Nat.reduceEqDiff, reduceIte]
      have hFa : Fm [] [62] [] σ1 (sA σ1 62 0 (nI k)) := Fm.sA σ1 _ _ (by decide)
      have hT2 := hT1.arr hFa (by decide) (by decide) (by decide)
      have hP2 := hT2.p hP (by decide) (by decide)
      refine ml_doesShrug hP2 (hN.eqv (by rw [hFa.2.1 52 (by decide)]; exact e1)) (hS1.eqv rfl) hT2.2.1 hT2.2.2.1 (by omega) (fun σ3 hF3 hN3 hS3 => ?_)
      have hT3 := hT2.step hF3 (hN3.2.2 (by decide))
      have e62 : fA σ3 62 0 = nI k := by rw [hF3.2.1 62 (by decide), fA_sA, if_pos ⟨rfl, rfl⟩]
      have hq3 := (hq1.fm hFa (by decide)).fm hF3 (by decide)
      refine ml_isThree_25 (fun σ4 hF4 hc4 ho4 => ?_)
      have hT4 := hT3.arr hF4 (by decide) (by decide) (by decide)
      have next : ∀ σ5, ((List.range (nP P * nT P)).drop (k + 1)).findSome? (fun i => if shI P s i = 2 then (planP P s u hh st 2 (asI P s i)).map (fun l => i :: l) else none) = planP P s u hh st 3 s → Thx kPl aPl 0 σ0 σ5 → mSd σ5 → mPq σ5 s u hh st → mw_isThree_123 X (nI k) σ5 Q := by
        intro σ5 he2 hT5 hS5 hq5
        unfold mw_isThree_123
        refine ml_anewX hT5 hS5 (fun σ6 hT6 e6 hS6 hF6 => ?_)
        rw [nI_1]
        exact ih (k + 1) σ6 (by omega) (by omega) he2 hT6 e6 hS6 (hq5.fm hF6 (by decide))
      unfold mw_isThree_51
      intro Y hY
      by_cases z : shI P s k = 2
      · rw [if_pos z] at he ⊢
        have inner : ∀ n2 k2 (σ5 : FS), nP P * nT P - k2 = n2 → k2 ≤ nP P * nT P → ((List.range (nP P * nT P)).drop k2).findSome? (fun i => if shI P (asI P s k) i = 2 then (planP P s u hh st 1 (asI P (asI P s k) i)).map (fun l => i :: l) else none) = planP P s u hh st 2 (asI P s k) → Thx kPl aPl 0 σ0 σ5 → mN σ5 P (asI P s k) → mNf (fA σ5 63) P (asI P s k) → mSd σ5 → mPq σ5 s u hh st → fA σ5 62 0 = nI k → Y (nI k) (nI 1) (nI k2) σ5 := by
          intro n2
          induction n2 with
          | zero =>
            intro k2 σ5 hn2 hk2 he2 hT5 hN5 hA5 hS5 hq5 r0
            have hP5 := hT5.p hP (by decide) (by decide)
            refine hY _ _ _ _ (ml_askingMany hP5 ⟨fun _ => next σ5 ?_ hT5 hS5 hq5, fun z => absurd ((nI_leI (by omega) (by omega)).mpr (by omega)) z⟩)
            rw [rng_end (by omega)] at he2
            rw [← he2] at he
            exact he
          | succ n2 ih2 =>
            intro k2 σ5 hn2 hk2 he2 hT5 hN5 hA5 hS5 hq5 r0
            have hP5 := hT5.p hP (by decide) (by decide)
            rw [rng_at (by omega), List.findSome?_cons] at he2
            refine hY _ _ _ _ (ml_askingMany hP5 ⟨fun z => absurd ((nI_leI (by omega) (by omega)).mp z) (by omega), fun _ => ?_⟩)
            simp (disch := omega) only [i_0, i_1, i_2, i_3, i_4, i_5, i_6, i_7, i_8, i_9, i_10, i_11, i_12, i_13, i_16, i_19, i_20, i_21, i_22, i_23, i_24, i_25, i_30, i_31, i_32, i_39, i_40, i_41, i_42, i_43, i_44, i_45, i_47, i_48, i_49, i_50, i_51, i_52, i_57, i_59, i_60, i_61, i_62, i_63, i_64, i_71, i_72, i_80, i_91, i_93, i_97, i_99, i_100, i_122, i_227, i_228, i_232, i_251, i_255, i_256, i_463, i_999, i_1000, i_1519, i_1600, i_9999, i_100000000, i_2147483639, i_2147483647, neg_nI1, nI_add, pk_mul, nI_remL, pk_sub, pk_div, nI_clamp, nI_leI, nI_ltI, nI_eq, vpT, nI_m1, m1_nI, nI_lem1, m1_le, m1_lt, nI_ltm1, nI_bit, nI_shl, nI_xor, nI_or, n_rem, forall_eq, true_and, and_true, implies_true, true_implies, false_implies, not_true_eq_false, not_false_eq_true, Nat.zero_add, Nat.add_zero, ite_true, ite_false, if_true, if_false, true_or, or_true, false_or, or_false, and_self, and_false, false_and, Nat.reduceEqDiff, reduceIte]
            have hFb : Fm [] [62] [] σ5 (sA σ5 62 1 (nI k2)) := Fm.sA σ5 _ _ (by decide)
            have hT6 := hT5.arr hFb (by decide) (by decide) (by decide)
            have hP6 := hT6.p hP (by decide) (by decide)
            refine ml_doesShrug hP6 (hN5.eqv (hFb.2.1 52 (by decide))) (hS5.eqv rfl) hT6.2.1 hT6.2.2.1 (by omega) (fun σ7 hF7 hN7 hS7 => ?_)
            have hT7 := hT6.step hF7 (hN7.2.2 (by decide))
            have r0' : fA σ7 62 0 = nI k := by rw [hF7.2.1 62 (by decide), fA_sA, if_neg (by omega)]; exact r0
            have r1' : fA σ7 62 1 = nI k2 := by rw [hF7.2.1 62 (by decide), fA_sA, if_pos ⟨rfl, rfl⟩]
            have e63 : fA σ7 63 = fA σ5 63 := by rw [hF7.2.1 63 (by decide), hFb.2.1 63 (by decide)]
            have hq7 := (hq5.fm hFb (by decide)).fm hF7 (by decide)
            have next2 : ∀ σ8, ((List.range (nP P * nT P)).drop (k2 + 1)).findSome? (fun i => if shI P (asI P s k) i = 2 then (planP P s u hh st 1 (asI P (asI P s k) i)).map (fun l => i :: l) else none) = planP P s u hh st 2 (asI P s k) → Thx kPl aPl 0 σ0 σ8 → mSd σ8 → mPq σ8 s u hh st → fA σ8 62 0 = nI k → fA σ8 63 = fA σ5 63 → mw_isThree_87 X Y (nI k) (nI 1) (nI k2) σ8 Q := by
              intro σ8 he3 hT8 hS8 hq8 w0 w63
              unfold mw_isThree_87
              refine ml_isThree_90 (fun σ9 hF9 hc9 ho9 => ?_)
              rw [nI_1]
              exact ih2 (k2 + 1) σ9 (by omega) (by omega) he3 (hT8.cp hF9 ho9) ⟨hN5.1, mNf_cp hP.1 hA5 (fun j hj => by rw [hc9 j hj, w63])⟩ (by rw [hF9.2.1 63 (by decide), w63]; exact hA5) (hS8.eqv (hF9.1 56 (by decide))) (hq8.fm hF9 (by decide)) (by rw [hF9.2.1 62 (by decide)]; exact w0)
            by_cases z2 : shI P (asI P s k) k2 = 2
            · rw [if_pos z2] at he2 ⊢
              simp (disch := omega) only [i_0, i_1, i_2, i_3, i_4, i_5, i_6, i_7, i_8, i_9, i_10, i_11, i_12, i_13, i_16, i_19, i_20, i_21, i_22, i_23, i_24, i_25, i_30, i_31, i_32, i_39, i_40, i_41, i_42, i_43, i_44, i_45, i_47, i_48, i_49, i_50, i_51, i_52, i_57, i_59, i_60, i_61, i_62, i_63, i_64, i_71, i_72, i_80, i_91, i_93, i_97, i_99, i_100, i_122, i_227, i_228, i_232, i_251, i_255, i_256, i_463, i_999, i_1000, i_1519, i_1600, i_9999, i_100000000, i_2147483639, i_2147483647, neg_nI1, nI_add, pk_mul, nI_remL, pk_sub, pk_div, nI_clamp, nI_leI, nI_ltI, nI_eq, vpT, nI_m1, m1_nI, nI_lem1, m1_le, m1_lt, nI_ltm1, nI_bit, nI_shl, nI_xor, nI_or, n_rem, forall_eq, true_and, and_true, implies_true, true_implies, false_implies, not_true_eq_false, not_false_eq_true, Nat.zero_add, Nat.add_zero, ite_true, ite_false, if_true, if_false, true_or, or_true, false_or, or_false, and_self, and_false, false_and, Nat.reduceEqDiff, reduceIte]
              refine ml_isThird (s := s) hP h09 hT7 hN7.1 hS7 hq7 hu hst hh9 (fun σ8 i hi hT8 hS8 w0 w1 w2 => ?_) (fun σ8 hi hT8 hS8 hq8 w0 w1 w3 => ?_)
              · simp (disch := omega) only [i_0, i_1, i_2, i_3, i_4, i_5, i_6, i_7, i_8, i_9, i_10, i_11, i_12, i_13, i_16, i_19, i_20, i_21, i_22, i_23, i_24, i_25, i_30, i_31, i_32, i_39, i_40, i_41, i_42, i_43, i_44, i_45, i_47, i_48, i_49, i_50, i_51, i_52, i_57, i_59, i_60, i_61, i_62, i_63, i_64, i_71, i_72, i_80, i_91, i_93, i_97, i_99, i_100, i_122, i_227, i_228, i_232, i_251, i_255, i_256, i_463, i_999, i_1000, i_1519, i_1600, i_9999, i_100000000, i_2147483639, i_2147483647, neg_nI1, nI_add, pk_mul, nI_remL, pk_sub, pk_div, nI_clamp, nI_leI, nI_ltI, nI_eq, vpT, nI_m1, m1_nI, nI_lem1, m1_le, m1_lt, nI_ltm1, nI_bit, nI_shl, nI_xor, nI_or, n_rem, forall_eq, true_and, and_true, implies_true, true_implies, false_implies, not_true_eq_false, not_false_eq_true, Nat.zero_add, Nat.add_zero, ite_true, ite_false, if_true, if_false, true_or, or_true, false_or, or_false, and_self, and_false, false_and, Nat.reduceEqDiff, reduceIte]
                rw [hi] at he2
                simp only [Option.map_some] at he2
                rw [← he2] at he
                simp only [Option.map_some] at he
                refine hs σ8 [k, k2, i] he.symm hT8 hS8 (fun j i' hj => ?_)
                match j, hj with
                | 0, hj => cases hj; rw [w0]; exact r0'
                | 1, hj => cases hj; rw [w1]; exact r1'
                | 2, hj => cases hj; exact w2
                | j + 3, hj => simp at hj
              · simp (disch := omega) only [i_0, i_1, i_2, i_3, i_4, i_5, i_6, i_7, i_8, i_9, i_10, i_11, i_12, i_13, i_16, i_19, i_20, i_21, i_22, i_23, i_24, i_25, i_30, i_31, i_32, i_39, i_40, i_41, i_42, i_43, i_44, i_45, i_47, i_48, i_49, i_50, i_51, i_52, i_57, i_59, i_60, i_61, i_62, i_63, i_64, i_71, i_72, i_80, i_91, i_93, i_97, i_99, i_100, i_122, i_227, i_228, i_232, i_251, i_255, i_256, i_463, i_999, i_1000, i_1519, i_1600, i_9999, i_100000000, i_2147483639, i_2147483647, neg_nI1, nI_add, pk_mul, nI_remL, pk_sub, pk_div, nI_clamp, nI_leI, nI_ltI, nI_eq, vpT, nI_m1, m1_nI, nI_lem1, m1_le, m1_lt, nI_ltm1, nI_bit, nI_shl, nI_xor, nI_or, n_rem, forall_eq, true_and, and_true, implies_true, true_implies, false_implies, not_true_eq_false, not_false_eq_true, Nat.zero_add, Nat.add_zero, ite_true, ite_false, if_true, if_false, true_or, or_true, false_or, or_false, and_self, and_false, false_and, Nat.reduceEqDiff, reduceIte]
                rw [hi] at he2
                exact next2 σ8 he2 hT8 hS8 hq8 (by rw [w0]; exact r0') (by rw [w3]; exact e63)
            · rw [if_neg z2] at he2 ⊢
              simp (disch := omega) only [i_0, i_1, i_2, i_3, i_4, i_5, i_6, i_7, i_8, i_9, i_10, i_11, i_12, i_13, i_16, i_19, i_20, i_21, i_22, i_23, i_24, i_25, i_30, i_31, i_32, i_39, i_40, i_41, i_42, i_43, i_44, i_45, i_47, i_48, i_49, i_50, i_51, i_52, i_57, i_59, i_60, i_61, i_62, i_63, i_64, i_71, i_72, i_80, i_91, i_93, i_97, i_99, i_100, i_122, i_227, i_228, i_232, i_251, i_255, i_256, i_463, i_999, i_1000, i_1519, i_1600, i_9999, i_100000000, i_2147483639, i_2147483647, neg_nI1, nI_add, pk_mul, nI_remL, pk_sub, pk_div, nI_clamp, nI_leI, nI_ltI, nI_eq, vpT, nI_m1, m1_nI, nI_lem1, m1_le, m1_lt, nI_ltm1, nI_bit, nI_shl, nI_xor, nI_or, n_rem, forall_eq, true_and, and_true, implies_true, true_implies, false_implies, not_true_eq_false, not_false_eq_true, Nat.zero_add, Nat.add_zero, ite_true, ite_false, if_true, if_false, true_or, or_true, false_or, or_false, and_self, and_false, false_and, Nat.reduceEqDiff, reduceIte]
              exact next2 σ7 he2 hT7 hS7 hq7 r0' e63
        exact inner _ 0 σ4 rfl (by omega) rfl hT4 (hN3.1.eqv (hF4.2.1 52 (by decide))) (mNf_cp hP.1 hN3.1.2 hc4) (hS3.eqv (hF4.1 56 (by decide))) (hq3.fm hF4 (by decide)) (by rw [hF4.2.1 62 (by decide)]; exact e62)
      · rw [if_neg z] at he ⊢
        have hP4 := hT4.p hP (by decide) (by decide)
        have fin := next σ4 he hT4 (hS3.eqv (hF4.1 56 (by decide))) (hq3.fm hF4 (by decide))
        refine hY _ _ _ _ (ml_askingMany hP4 ⟨fun _ => fin, fun _ => ?_⟩)
        simp (disch := omega) only [i_0, i_1, i_2, i_3, i_4, i_5, i_6, i_7, i_8, i_9, i_10, i_11, i_12, i_13, i_16, i_19, i_20, i_21, i_22, i_23, i_24, i_25, i_30, i_31, i_32, i_39, i_40, i_41, i_42, i_43, i_44, i_45, i_47, i_48, i_49, i_50, i_51, i_52, i_57, i_59, i_60, i_61, i_62, i_63, i_64, i_71, i_72, i_80, i_91, i_93, i_97, i_99, i_100, i_122, i_227, i_228, i_232, i_251, i_255, i_256, i_463, i_999, i_1000, i_1519, i_1600, i_9999, i_100000000, i_2147483639, i_2147483647, neg_nI1, nI_add, pk_mul, nI_remL, pk_sub, pk_div, nI_clamp, nI_leI, nI_ltI, nI_eq, vpT, nI_m1, m1_nI, nI_lem1, m1_le, m1_lt, nI_ltm1, nI_bit, nI_shl, nI_xor, nI_or, n_rem, forall_eq, true_and, and_true, implies_true, true_implies, false_implies, not_true_eq_false, not_false_eq_true, Nat.zero_add, Nat.add_zero, ite_true, ite_false, if_true, if_false, true_or, or_true, false_or, or_false, and_self, and_false, false_and, Nat.reduceEqDiff, reduceIte]
        exact fin
  exact key _ 0 σ rfl (by omega) rfl hT e52 hS hq
