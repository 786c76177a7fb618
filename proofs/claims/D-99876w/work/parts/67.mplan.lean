/-! THE REFERENCE: plans -/
theorem ml_isThird_2  {σ : FS} {Q : Int32 → FS → Prop} (hQ : ∀ σ', Fm [] [64] [] σ σ' → (∀ k, k < 71 → fA σ' 64 k = fA σ 52 k) → (∀ k, 71 ≤ k → fA σ' 64 k = fA σ 64 k) → mw_isThird_28 (0 : Int32) σ' Q) : mw_isThird_2  (0 : Int32) σ Q := by
  unfold mw_isThird_2
  intro X hX
  have key : ∀ j k (σ1 : FS), 71 - k = j → k ≤ 71 → Fm [] [64] [] σ σ1 → (∀ i, i < k → fA σ1 64 i = fA σ 52 i) → (∀ i, k ≤ i → fA σ1 64 i = fA σ 64 i) → X  (nI k) σ1 := by
    intro j
    induction j with
    | zero =>
      intro k σ1 hj hk hF hc ho
      refine hX _ _ ?_
      rw [i_71]
      refine ⟨fun _ => hQ σ1 hF (fun i hi => hc i (by omega)) (fun i hi => ho i (by omega)), fun z => absurd ((nI_leI (by omega) (by omega)).mpr (by omega)) z⟩
    | succ j ih =>
      intro k σ1 hj hk hF hc ho
      refine hX _ _ ?_
      simp (disch := omega) only [i_0, i_1, i_2, i_3, i_4, i_5, i_6, i_7, i_8, i_9, i_10, i_11, i_12, i_13, i_16, i_19, i_20, i_21, i_22, i_23, i_24, i_25, i_30, i_31, i_32, i_39, i_40, i_41, i_42, i_43, i_44, i_45, i_47, i_48, i_49, i_50, i_51, i_52, i_57, i_59, i_60, i_61, i_62, i_63, i_64, i_71, i_72, i_80, i_91, i_93, i_97, i_99, i_100, i_122, i_227, i_228, i_232, i_251, i_255, i_256, i_463, i_999, i_1000, i_1519, i_1600, i_9999, i_100000000, i_2147483639, i_2147483647, neg_nI1, nI_add, pk_mul, nI_remL, pk_sub, pk_div, nI_clamp, nI_leI, nI_ltI, nI_eq, vpT, nI_m1, m1_nI, nI_lem1, m1_le, m1_lt, nI_ltm1, nI_bit, nI_shl, nI_xor, nI_or, n_rem, forall_eq, true_and, and_true, implies_true, true_implies, false_implies, not_true_eq_false, not_false_eq_true, Nat.zero_add, Nat.add_zero, ite_true, ite_false, if_true, if_false, true_or, or_true, false_or, or_false, and_self, and_false, false_and, Nat.reduceEqDiff, reduceIte]
      refine ⟨fun z => absurd z (by omega), fun _ => ih (k + 1) _ (by omega) (by omega) (hF.trans (Fm.sA σ1 _ _ (by decide))) (fun i hi => ?_) (fun i hi => ?_)⟩
      · by_cases z : i = k
        · subst z; rw [fA_sA, if_pos ⟨rfl, rfl⟩, hF.2.1 52 (by decide)]
        · rw [fA_sA, if_neg (by omega)]; exact hc i (by omega)
      · rw [fA_sA, if_neg (by omega)]; exact ho i (by omega)
  exact key 71 0 σ rfl (by omega) (Fm.refl _ _ _ _) (fun i hi => by omega) (fun i _ => rfl)
theorem ml_isThird_62 {X28 : Int32 → FS → Prop} {x1 : Int32} {σ : FS} {Q : Int32 → FS → Prop} (hQ : ∀ σ', Fm [] [52] [] σ σ' → (∀ k, k < 71 → fA σ' 52 k = fA σ 64 k) → (∀ k, 71 ≤ k → fA σ' 52 k = fA σ 52 k) → X28 (x1 + 1) σ') : mw_isThird_62 X28 x1 (0 : Int32) σ Q := by
  unfold mw_isThird_62
  intro X hX
  have key : ∀ j k (σ1 : FS), 71 - k = j → k ≤ 71 → Fm [] [52] [] σ σ1 → (∀ i, i < k → fA σ1 52 i = fA σ 64 i) → (∀ i, k ≤ i → fA σ1 52 i = fA σ 52 i) → X x1 (nI k) σ1 := by
    intro j
    induction j with
    | zero =>
      intro k σ1 hj hk hF hc ho
      refine hX _ _ _ ?_
      rw [i_71]
      refine ⟨fun _ => hQ σ1 hF (fun i hi => hc i (by omega)) (fun i hi => ho i (by omega)), fun z => absurd ((nI_leI (by omega) (by omega)).mpr (by omega)) z⟩
    | succ j ih =>
      intro k σ1 hj hk hF hc ho
      refine hX _ _ _ ?_
      simp (disch := omega) only [i_0, i_1, i_2, i_3, i_4, i_5, i_6, i_7, i_8, i_9, i_10, i_11, i_12, i_13, i_16, i_19, i_20, i_21, i_22, i_23, i_24, i_25, i_30, i_31, i_32, i_39, i_40, i_41, i_42, i_43, i_44, i_45, i_47, i_48, i_49, i_50, i_51, i_52, i_57, i_59, i_60, i_61, i_62, i_63, i_64, i_71, i_72, i_80, i_91, i_93, i_97, i_99, i_100, i_122, i_227, i_228, i_232, i_251, i_255, i_256, i_463, i_999, i_1000, i_1519, i_1600, i_9999, i_100000000, i_2147483639, i_2147483647, neg_nI1, nI_add, pk_mul, nI_remL, pk_sub, pk_div, nI_clamp, nI_leI, nI_ltI, nI_eq, vpT, nI_m1, m1_nI, nI_lem1, m1_le, m1_lt, nI_ltm1, nI_bit, nI_shl, nI_xor, nI_or, n_rem, forall_eq, true_and, and_true, implies_true, true_implies, false_implies, not_true_eq_false, not_false_eq_true, Nat.zero_add, Nat.add_zero, ite_true, ite_false, if_true, if_false, true_or, or_true, false_or, or_false, and_self, and_false, false_and, Nat.reduceEqDiff, reduceIte]
      refine ⟨fun z => absurd z (by omega), fun _ => ih (k + 1) _ (by omega) (by omega) (hF.trans (Fm.sA σ1 _ _ (by decide))) (fun i hi => ?_) (fun i hi => ?_)⟩
      · by_cases z : i = k
        · subst z; rw [fA_sA, if_pos ⟨rfl, rfl⟩, hF.2.1 64 (by decide)]
        · rw [fA_sA, if_neg (by omega)]; exact hc i (by omega)
      · rw [fA_sA, if_neg (by omega)]; exact ho i (by omega)
  exact key 71 0 σ rfl (by omega) (Fm.refl _ _ _ _) (fun i hi => by omega) (fun i _ => rfl)
theorem ml_isTwo_25 {X2 : Int32 → FS → Prop} {x1 x2 : Int32} {σ : FS} {Q : Int32 → FS → Prop} (hQ : ∀ σ', Fm [] [63] [] σ σ' → (∀ k, k < 71 → fA σ' 63 k = fA σ 52 k) → (∀ k, 71 ≤ k → fA σ' 63 k = fA σ 63 k) → mw_isTwo_51 X2 x1 x2 (0 : Int32) σ' Q) : mw_isTwo_25 X2 x1 x2 (0 : Int32) σ Q := by
  unfold mw_isTwo_25
  intro X hX
  have key : ∀ j k (σ1 : FS), 71 - k = j → k ≤ 71 → Fm [] [63] [] σ σ1 → (∀ i, i < k → fA σ1 63 i = fA σ 52 i) → (∀ i, k ≤ i → fA σ1 63 i = fA σ 63 i) → X x1 x2 (nI k) σ1 := by
    intro j
    induction j with
    | zero =>
      intro k σ1 hj hk hF hc ho
      refine hX _ _ _ _ ?_
      rw [i_71]
      refine ⟨fun _ => hQ σ1 hF (fun i hi => hc i (by omega)) (fun i hi => ho i (by omega)), fun z => absurd ((nI_leI (by omega) (by omega)).mpr (by omega)) z⟩
    | succ j ih =>
      intro k σ1 hj hk hF hc ho
      refine hX _ _ _ _ ?_
      simp (disch := omega) only [i_0, i_1, i_2, i_3, i_4, i_5, i_6, i_7, i_8, i_9, i_10, i_11, i_12, i_13, i_16, i_19, i_20, i_21, i_22, i_23, i_24, i_25, i_30, i_31, i_32, i_39, i_40, i_41, i_42, i_43, i_44, i_45, i_47, i_48, i_49, i_50, i_51, i_52, i_57, i_59, i_60, i_61, i_62, i_63, i_64, i_71, i_72, i_80, i_91, i_93, i_97, i_99, i_100, i_122, i_227, i_228, i_232, i_251, i_255, i_256, i_463, i_999, i_1000, i_1519, i_1600, i_9999, i_100000000, i_2147483639, i_2147483647, neg_nI1, nI_add, pk_mul, nI_remL, pk_sub, pk_div, nI_clamp, nI_leI, nI_ltI, nI_eq, vpT, nI_m1, m1_nI, nI_lem1, m1_le, m1_lt, nI_ltm1, nI_bit, nI_shl, nI_xor, nI_or, n_rem, forall_eq, true_and, and_true, implies_true, true_implies, false_implies, not_true_eq_false, not_false_eq_true, Nat.zero_add, Nat.add_zero, ite_true, ite_false, if_true, if_false, true_or, or_true, false_or, or_false, and_self, and_false, false_and, Nat.reduceEqDiff, reduceIte]
      refine ⟨fun z => absurd z (by omega), fun _ => ih (k + 1) _ (by omega) (by omega) (hF.trans (Fm.sA σ1 _ _ (by decide))) (fun i hi => ?_) (fun i hi => ?_)⟩
      · by_cases z : i = k
        · subst z; rw [fA_sA, if_pos ⟨rfl, rfl⟩, hF.2.1 52 (by decide)]
        · rw [fA_sA, if_neg (by omega)]; exact hc i (by omega)
      · rw [fA_sA, if_neg (by omega)]; exact ho i (by omega)
  exact key 71 0 σ rfl (by omega) (Fm.refl _ _ _ _) (fun i hi => by omega) (fun i _ => rfl)
theorem ml_isTwo_90 {X2 : Int32 → FS → Prop} {X51 : Int32 → Int32 → Int32 → FS → Prop} {x1 x2 x3 : Int32} {σ : FS} {Q : Int32 → FS → Prop} (hQ : ∀ σ', Fm [] [52] [] σ σ' → (∀ k, k < 71 → fA σ' 52 k = fA σ 63 k) → (∀ k, 71 ≤ k → fA σ' 52 k = fA σ 52 k) → X51 x1 x2 (x3 + 1) σ') : mw_isTwo_90 X2 X51 x1 x2 x3 (0 : Int32) σ Q := by
  unfold mw_isTwo_90
  intro X hX
  have key : ∀ j k (σ1 : FS), 71 - k = j → k ≤ 71 → Fm [] [52] [] σ σ1 → (∀ i, i < k → fA σ1 52 i = fA σ 63 i) → (∀ i, k ≤ i → fA σ1 52 i = fA σ 52 i) → X x1 x2 x3 (nI k) σ1 := by
    intro j
    induction j with
    | zero =>
      intro k σ1 hj hk hF hc ho
      refine hX _ _ _ _ _ ?_
      rw [i_71]
      refine ⟨fun _ => hQ σ1 hF (fun i hi => hc i (by omega)) (fun i hi => ho i (by omega)), fun z => absurd ((nI_leI (by omega) (by omega)).mpr (by omega)) z⟩
    | succ j ih =>
      intro k σ1 hj hk hF hc ho
      refine hX _ _ _ _ _ ?_
      simp (disch := omega) only [i_0, i_1, i_2, i_3, i_4, i_5, i_6, i_7, i_8, i_9, i_10, i_11, i_12, i_13, i_16, i_19, i_20, i_21, i_22, i_23, i_24, i_25, i_30, i_31, i_32, i_39, i_40, i_41, i_42, i_43, i_44, i_45, i_47, i_48, i_49, i_50, i_51, i_52, i_57, i_59, i_60, i_61, i_62, i_63, i_64, i_71, i_72, i_80, i_91, i_93, i_97, i_99, i_100, i_122, i_227, i_228, i_232, i_251, i_255, i_256, i_463, i_999, i_1000, i_1519, i_1600, i_9999, i_100000000, i_2147483639, i_2147483647, neg_nI1, nI_add, pk_mul, nI_remL, pk_sub, pk_div, nI_clamp, nI_leI, nI_ltI, nI_eq, vpT, nI_m1, m1_nI, nI_lem1, m1_le, m1_lt, nI_ltm1, nI_bit, nI_shl, nI_xor, nI_or, n_rem, forall_eq, true_and, and_true, implies_true, true_implies, false_implies, not_true_eq_false, not_false_eq_true, Nat.zero_add, Nat.add_zero, ite_true, ite_false, if_true, if_false, true_or, or_true, false_or, or_false, and_self, and_false, false_and, Nat.reduceEqDiff, reduceIte]
      refine ⟨fun z => absurd z (by omega), fun _ => ih (k + 1) _ (by omega) (by omega) (hF.trans (Fm.sA σ1 _ _ (by decide))) (fun i hi => ?_) (fun i hi => ?_)⟩
      · by_cases z : i = k
        · subst z; rw [fA_sA, if_pos ⟨rfl, rfl⟩, hF.2.1 63 (by decide)]
        · rw [fA_sA, if_neg (by omega)]; exact hc i (by omega)
      · rw [fA_sA, if_neg (by omega)]; exact ho i (by omega)
  exact key 71 0 σ rfl (by omega) (Fm.refl _ _ _ _) (fun i hi => by omega) (fun i _ => rfl)
theorem ml_isThree_25 {X2 : Int32 → FS → Prop} {x1 x2 : Int32} {σ : FS} {Q : Int32 → FS → Prop} (hQ : ∀ σ', Fm [] [63] [] σ σ' → (∀ k, k < 71 → fA σ' 63 k = fA σ 52 k) → (∀ k, 71 ≤ k → fA σ' 63 k = fA σ 63 k) → mw_isThree_51 X2 x1 x2 (0 : Int32) σ' Q) : mw_isThree_25 X2 x1 x2 (0 : Int32) σ Q := by
  unfold mw_isThree_25
  intro X hX
  have key : ∀ j k (σ1 : FS), 71 - k = j → k ≤ 71 → Fm [] [63] [] σ σ1 → (∀ i, i < k → fA σ1 63 i = fA σ 52 i) → (∀ i, k ≤ i → fA σ1 63 i = fA σ 63 i) → X x1 x2 (nI k) σ1 := by
    intro j
    induction j with
    | zero =>
      intro k σ1 hj hk hF hc ho
      refine hX _ _ _ _ ?_
      rw [i_71]
      refine ⟨fun _ => hQ σ1 hF (fun i hi => hc i (by omega)) (fun i hi => ho i (by omega)), fun z => absurd ((nI_leI (by omega) (by omega)).mpr (by omega)) z⟩
    | succ j ih =>
      intro k σ1 hj hk hF hc ho
      refine hX _ _ _ _ ?_
      simp (disch := omega) only [i_0, i_1, i_2, i_3, i_4, i_5, i_6, i_7, i_8, i_9, i_10, i_11, i_12, i_13, i_16, i_19, i_20, i_21, i_22, i_23, i_24, i_25, i_30, i_31, i_32, i_39, i_40, i_41, i_42, i_43, i_44, i_45, i_47, i_48, i_49, i_50, i_51, i_52, i_57, i_59, i_60, i_61, i_62, i_63, i_64, i_71, i_72, i_80, i_91, i_93, i_97, i_99, i_100, i_122, i_227, i_228, i_232, i_251, i_255, i_256, i_463, i_999, i_1000, i_1519, i_1600, i_9999, i_100000000, i_2147483639, i_2147483647, neg_nI1, nI_add, pk_mul, nI_remL, pk_sub, pk_div, nI_clamp, nI_leI, nI_ltI, nI_eq, vpT, nI_m1, m1_nI, nI_lem1, m1_le, m1_lt, nI_ltm1, nI_bit, nI_shl, nI_xor, nI_or, n_rem, forall_eq, true_and, and_true, implies_true, true_implies, false_implies, not_true_eq_false, not_false_eq_true, Nat.zero_add, Nat.add_zero, ite_true, ite_false, if_true, if_false, true_or, or_true, false_or, or_false, and_self, and_false, false_and, Nat.reduceEqDiff, reduceIte]
      refine ⟨fun z => absurd z (by omega), fun _ => ih (k + 1) _ (by omega) (by omega) (hF.trans (Fm.sA σ1 _ _ (by decide))) (fun i hi => ?_) (fun i hi => ?_)⟩
      · by_cases z : i = k
        · subst z; rw [fA_sA, if_pos ⟨rfl, rfl⟩, hF.2.1 52 (by decide)]
        · rw [fA_sA, if_neg (by omega)]; exact hc i (by omega)
      · rw [fA_sA, if_neg (by omega)]; exact ho i (by omega)
  exact key 71 0 σ rfl (by omega) (Fm.refl _ _ _ _) (fun i hi => by omega) (fun i _ => rfl)
theorem ml_isThree_90 {X2 : Int32 → FS → Prop} {X51 : Int32 → Int32 → Int32 → FS → Prop} {x1 x2 x3 : Int32} {σ : FS} {Q : Int32 → FS → Prop} (hQ : ∀ σ', Fm [] [52] [] σ σ' → (∀ k, k < 71 → fA σ' 52 k = fA σ 63 k) → (∀ k, 71 ≤ k → fA σ' 52 k = fA σ 52 k) → X51 x1 x2 (x3 + 1) σ') : mw_isThree_90 X2 X51 x1 x2 x3 (0 : Int32) σ Q := by
  unfold mw_isThree_90
  intro X hX
  have key : ∀ j k (σ1 : FS), 71 - k = j → k ≤ 71 → Fm [] [52] [] σ σ1 → (∀ i, i < k → fA σ1 52 i = fA σ 63 i) → (∀ i, k ≤ i → fA σ1 52 i = fA σ 52 i) → X x1 x2 x3 (nI k) σ1 := by
    intro j
    induction j with
    | zero =>
      intro k σ1 hj hk hF hc ho
      refine hX _ _ _ _ _ ?_
      rw [i_71]
      refine ⟨fun _ => hQ σ1 hF (fun i hi => hc i (by omega)) (fun i hi => ho i (by omega)), fun z => absurd ((nI_leI (by omega) (by omega)).mpr (by omega)) z⟩
    | succ j ih =>
      intro k σ1 hj hk hF hc ho
      refine hX _ _ _ _ _ ?_
      simp (disch := omega) only [i_0, i_1, i_2, i_3, i_4, i_5, i_6, i_7, i_8, i_9, i_10, i_11, i_12, i_13, i_16, i_19, i_20, i_21, i_22, i_23, i_24, i_25, i_30, i_31, i_32, i_39, i_40, i_41, i_42, i_43, i_44, i_45, i_47, i_48, i_49, i_50, i_51, i_52, i_57, i_59, i_60, i_61, i_62, i_63, i_64, i_71, i_72, i_80, i_91, i_93, i_97, i_99, i_100, i_122, i_227, i_228, i_232, i_251, i_255, i_256, i_463, i_999, i_1000, i_1519, i_1600, i_9999, i_100000000, i_2147483639, i_2147483647, neg_nI1, nI_add, pk_mul, nI_remL, pk_sub, pk_div, nI_clamp, nI_leI, nI_ltI, nI_eq, vpT, nI_m1, m1_nI, nI_lem1, m1_le, m1_lt, nI_ltm1, nI_bit, nI_shl, nI_xor, nI_or, n_rem, forall_eq, true_and, and_true, implies_true, true_implies, false_implies, not_true_eq_false, not_false_eq_true, Nat.zero_add, Nat.add_zero, ite_true, ite_false, if_true, if_false, true_or, or_true, false_or, or_false, and_self, and_false, false_and, Nat.reduceEqDiff, reduceIte]
      refine ⟨fun z => absurd z (by omega), fun _ => ih (k + 1) _ (by omega) (by omega) (hF.trans (Fm.sA σ1 _ _ (by decide))) (fun i hi => ?_) (fun i hi => ?_)⟩
      · by_cases z : i = k
        · subst z; rw [fA_sA, if_pos ⟨rfl, rfl⟩, hF.2.1 63 (by decide)]
        · rw [fA_sA, if_neg (by omega)]; exact hc i (by omega)
      · rw [fA_sA, if_neg (by omega)]; exact ho i (by omega)
  exact key 71 0 σ rfl (by omega) (Fm.refl _ _ _ _) (fun i hi => by omega) (fun i _ => rfl)
/-! thinking with more that may change -/
def Thx (ks as : List Nat) (sil : Nat) (σ0 σ : FS) : Prop := Fm (57 :: 60 :: (kAs ++ ks)) (52 :: 53 :: as) [108] σ0 σ ∧ fI σ 0 57 = nI 1 ∧ fI σ 0 60 = nI sil ∧ (∀ k, k < 71 → fA σ 53 k = fA σ0 52 k) ∧ ∀ k, 71 ≤ k → fA σ 52 k = fA σ0 52 k
theorem kAs_in {ks : List Nat} : ∀ k ∈ kAs, k ∈ 57 :: 60 :: (kAs ++ ks) := fun k h => List.mem_cons_of_mem _ (List.mem_cons_of_mem _ (List.mem_append_left _ h))
theorem ml_thinkX (ks as : List Nat) {σ : FS} {Q : FS → Prop} (h60 : fI σ 0 60 = nI 0) (hQ : ∀ σ', Thx ks as 0 σ σ' → fA σ' 52 = fA σ 52 → Fm [57] [53] [] σ σ' → Q σ') : mw_putsAside σ Q :=
  ml_putsAside (fun σ' hF h57 hc => hQ σ' ⟨hF.wide (by simp) (by simp) (by simp), h57, by rw [hF.1 60 (by decide)]; exact h60, hc, fun k _ => by rw [hF.2.1 52 (by decide)]⟩ (hF.2.1 52 (by decide)) hF)
theorem Thx.step {ks as : List Nat} {sil : Nat} {σ0 σ σ' : FS} (h : Thx ks as sil σ0 σ) (hF : Fm kAs [52] [108] σ σ') (ho : ∀ k, 71 ≤ k → fA σ' 52 k = fA σ 52 k) : Thx ks as sil σ0 σ' :=
  ⟨h.1.trans (hF.wide kAs_in (by simp) (by simp)), by rw [hF.1 57 (by decide)]; exact h.2.1, by rw [hF.1 60 (by decide)]; exact h.2.2.1, fun k hk => by rw [hF.2.1 53 (by decide)]; exact h.2.2.2.1 k hk, fun k hk => (ho k hk).trans (h.2.2.2.2 k hk)⟩
theorem Thx.arr {ks as : List Nat} {sil : Nat} {σ0 σ σ' : FS} {a : Nat} (h : Thx ks as sil σ0 σ) (hF : Fm [] [a] [] σ σ') (ha : a ∈ as) (h2 : a ≠ 52) (h3 : a ≠ 53) : Thx ks as sil σ0 σ' :=
  ⟨h.1.trans (hF.wide (by simp) (by simp [ha]) (by simp)), by rw [hF.1 57 (by simp)]; exact h.2.1, by rw [hF.1 60 (by simp)]; exact h.2.2.1, fun k hk => by rw [hF.2.1 53 (by simp; omega)]; exact h.2.2.2.1 k hk, fun k hk => by rw [hF.2.1 52 (by simp; omega)]; exact h.2.2.2.2 k hk⟩
/-- the land is copied back from somewhere -/
theorem Thx.cp {ks as : List Nat} {sil : Nat} {σ0 σ σ' : FS} (h : Thx ks as sil σ0 σ) (hF : Fm [] [52] [] σ σ') (ho : ∀ k, 71 ≤ k → fA σ' 52 k = fA σ 52 k) : Thx ks as sil σ0 σ' := h.step (hF.wide (by simp) (by simp) (by simp)) ho
theorem Thx.sil {ks as : List Nat} {sil sil' : Nat} {σ0 σ : FS} (h : Thx ks as sil σ0 σ) : Thx ks as sil' σ0 (sI σ 0 60 (nI sil')) :=
  ⟨h.1.trans (Fm.sI σ _ (by simp)), by rw [fI_sI]; simpa using h.2.1, by rw [fI_sI]; simp, h.2.2.2.1, h.2.2.2.2⟩
theorem ml_backX {ks as : List Nat} {sil : Nat} {σ0 σ : FS} {Q : FS → Prop} (h : Thx ks as sil σ0 σ) (hS : mSd σ) (h57 : fI σ0 0 57 = nI 0) (h60 : fI σ0 0 60 = nI 0) (hQ : ∀ σ', Fm (kAs ++ ks) (53 :: as) [108] σ0 σ' → mSd σ' → (∀ a, a ≠ 52 → fA σ' a = fA σ a) → (∀ k, k ≠ 57 → k ≠ 60 → fI σ' 0 k = fI σ 0 k) → Q σ') : mw_takesBack σ Q := by
  refine ml_takesBack (fun σ' hF g57 g60 h1 h2 => hQ σ' ?_ ?_ (fun a ha => hF.2.1 a (by simpa using ha)) (fun k q1 q2 => hF.1 k (by simp [q1, q2])))
  · obtain ⟨hA, -, -, hc, ho⟩ := h
    refine ⟨fun k hk => ?_, fun a ha => ?_, fun b hb => ?_, ?_⟩
    · by_cases z1 : k = 57
      · subst z1; rw [g57, h57]
      · by_cases z2 : k = 60
        · subst z2; rw [g60, h60]
        · rw [hF.1 k (by simp [z1, z2]), hA.1 k (fun q => by
            rcases List.mem_cons.mp q with q | q
            · exact z1 q
            · rcases List.mem_cons.mp q with q | q
              · exact z2 q
              · exact hk q)]
    · by_cases z : a = 52
      · subst z
        funext k
        rcases Nat.lt_or_ge k 71 with q | q
        · rw [h1 k q, hc k q]
        · rw [h2 k q, ho k q]
      · rw [hF.2.1 a (by simpa using z), hA.2.1 a (fun q => by
          rcases List.mem_cons.mp q with q | q
          · exact z q
          · exact ha q)]
    · rw [hF.2.2.1 b (by simp), hA.2.2.1 b hb]
    · rw [hF.2.2.2, hA.2.2.2]
  · obtain ⟨sd, q1, q2⟩ := hS
    exact ⟨sd, q1, by rw [hF.1 56 (by decide)]; exact q2⟩
theorem ml_anewX {ks as : List Nat} {sil : Nat} {σ0 σ : FS} {Q : FS → Prop} (h : Thx ks as sil σ0 σ) (hS : mSd σ) (hQ : ∀ σ', Thx ks as sil σ0 σ' → fA σ' 52 = fA σ0 52 → mSd σ' → Fm [] [52] [] σ σ' → Q σ') : mw_triesAnew σ Q := by
  refine ml_triesAnew (fun σ' hF h1 h2 => hQ σ' (h.cp hF h2) ?_ (hS.eqv (hF.1 56 (by decide))) hF)
  funext k
  rcases Nat.lt_or_ge k 71 with q | q
  · rw [h1 k q, h.2.2.2.1 k q]
  · rw [h2 k q, h.2.2.2.2 k q]
theorem Thx.p {ks as : List Nat} {sil : Nat} {σ0 σ : FS} {P : Pl} (h : Thx ks as sil σ0 σ) (hP : mP σ0 P) (hk : 50 ∉ ks) (ha : ∀ a ∈ ([39, 40, 44, 45, 46, 47] : List Nat), a ∉ as) : mP σ P := by
  refine hP.fm h.1 (fun q => ?_) (fun a q q2 => ?_) (by decide)
  · rcases List.mem_cons.mp q with q | q
    · omega
    · rcases List.mem_cons.mp q with q | q
      · omega
      · rcases List.mem_append.mp q with q | q
        · revert q; decide
        · exact hk q
  · rcases List.mem_cons.mp q2 with q2 | q2
    · subst q2; revert q; decide
    · rcases List.mem_cons.mp q2 with q2 | q2
      · subst q2; revert q; decide
      · exact ha a q q2
/-! the specification of plans -/
def soS (s0 : St) (u hh st : Nat) (s : St) : Bool := decide (hh ≤ zH s u ∧ zH s st = zH s0 st)
def asI (P : Pl) (s : St) (i : Nat) : St := zAs P 0 s (i / nT P) (i % nT P)
def shI (P : Pl) (s : St) (i : Nat) : Nat := zWo P 0 s (i / nT P) (i % nT P)
def planF (P : Pl) (s0 : St) (u hh st : Nat) : Nat → St → Option (List Nat)
  | 0, s => if soS s0 u hh st s = true then some [] else none
  | n + 1, s => (List.range (nP P * nT P)).findSome? (fun i => (planF P s0 u hh st n (asI P s i)).map (fun l => i :: l))
def planP (P : Pl) (s0 : St) (u hh st : Nat) : Nat → St → Option (List Nat)
  | 0, s => if soS s0 u hh st s = true then some [] else none
  | n + 1, s => (List.range (nP P * nT P)).findSome? (fun i => if shI P s i = 2 then (planP P s0 u hh st n (asI P s i)).map (fun l => i :: l) else none)
theorem asI_not {P : Pl} {s : St} {i : Nat} (h : ¬ shI P s i = 2) : asI P s i = s := by unfold asI zAs; exact if_neg h
theorem planP_F {P : Pl} {s0 : St} {u hh st : Nat} : ∀ (n : Nat) (s : St), (∀ m, m < n → planF P s0 u hh st m s = none) → planP P s0 u hh st n s = planF P s0 u hh st n s
  | 0, s, _ => rfl
  | n + 1, s, h => by
    simp only [planP, planF]
    have hcong : ∀ (l : List Nat), (∀ i ∈ l, i ∈ List.range (nP P * nT P)) → l.findSome? (fun i => if shI P s i = 2 then (planP P s0 u hh st n (asI P s i)).map (fun l => i :: l) else none) = l.findSome? (fun i => (planF P s0 u hh st n (asI P s i)).map (fun l => i :: l)) := by
      intro l
      induction l with
      | nil => intro _; rfl
      | cons i l ih =>
        intro hl
        rw [List.findSome?_cons, List.findSome?_cons, ih (fun j hj => hl j (List.mem_cons_of_mem _ hj))]
        have hi := hl i List.mem_cons_self
        by_cases z : shI P s i = 2
        · rw [if_pos z, planP_F n (asI P s i) (fun m hm => ?_)]
          have h1 := h (m + 1) (by omega)
          simp only [planF, List.findSome?_eq_none_iff] at h1
          have h2 := h1 i hi
          simpa using h2
        · rw [if_neg z, asI_not z, h n (by omega)]
          rfl
    exact hcong _ (fun i hi => hi)
theorem rng_at {N k : Nat} (h : k < N) : (List.range N).drop k = k :: (List.range N).drop (k + 1) := by
  rw [List.drop_eq_getElem_cons (by simpa using h)]
  congr 1
  simp
theorem rng_end {N k : Nat} (h : N ≤ k) : (List.range N).drop k = [] := List.drop_eq_nil_of_le (by simpa using h)
theorem nn_le {P : Pl} (hP : plOK P) : nP P * nT P ≤ 35 := Nat.mul_le_mul hP.2.2.2.2.1 hP.2.2.2.1
theorem ml_askingMany {σ : FS} {P : Pl} {Q : Int32 → FS → Prop} (hP : mP σ P) (hQ : Q (nI (nP P * nT P)) σ) : mw_askingMany σ Q := by
  unfold mw_askingMany
  refine ml_personMany hP (ml_topicMany hP ?_)
  rw [pk_mul]; exact hQ
theorem ml_doesShrug {σ : FS} {P : Pl} {s : St} {i : Nat} {Q : Int32 → FS → Prop} (hP : mP σ P) (hN : mN σ P s) (hS : mSd σ) (h57 : fI σ 0 57 = nI 1) (h60 : fI σ 0 60 = nI 0) (hi : i < nP P * nT P) (hQ : ∀ σ', Fm kAs [52] [108] σ σ' → mNK 1 σ σ' P s (asI P s i) → mSd σ' → Q (nI (if shI P s i = 2 then 1 else 0)) σ') : mw_doesShrug (nI i) σ Q := by
  have h35 := nn_le hP.1
  have hT0 : 0 < nT P := by
    rcases Nat.eq_zero_or_pos (nT P) with z | z
    · rw [z] at hi; omega
    · exact z
  have h5 := hP.1.2.2.2.1
  unfold mw_doesShrug
  refine ml_topicMany hP ?_
  simp (disch := omega) only [i_0, i_1, i_2, i_3, i_4, i_5, i_6, i_7, i_8, i_9, i_10, i_11, i_12, i_13, i_16, i_19, i_20, i_21, i_22, i_23, i_24, i_25, i_30, i_31, i_32, i_39, i_40, i_41, i_42, i_43, i_44, i_45, i_47, i_48, i_49, i_50, i_51, i_52, i_57, i_59, i_60, i_61, i_62, i_63, i_64, i_71, i_72, i_80, i_91, i_93, i_97, i_99, i_100, i_122, i_227, i_228, i_232, i_251, i_255, i_256, i_463, i_999, i_1000, i_1519, i_1600, i_9999, i_100000000, i_2147483639, i_2147483647, neg_nI1, nI_add, pk_mul, nI_remL, pk_sub, pk_div, nI_clamp, nI_leI, nI_ltI, nI_eq, vpT, nI_m1, m1_nI, nI_lem1, m1_le, m1_lt, nI_ltm1, nI_bit, nI_shl, nI_xor, nI_or, n_rem, forall_eq, true_and, and_true, implies_true, true_implies, false_implies, not_true_eq_false, not_false_eq_true, Nat.zero_add, Nat.add_zero, ite_true, ite_false, if_true, if_false, true_or, or_true, false_or, or_false, and_self, and_false, false_and, Nat.reduceEqDiff, reduceIte]
  refine ⟨by omega, ml_topicMany hP ?_⟩
  simp (disch := omega) only [i_0, i_1, i_2, i_3, i_4, i_5, i_6, i_7, i_8, i_9, i_10, i_11, i_12, i_13, i_16, i_19, i_20, i_21, i_22, i_23, i_24, i_25, i_30, i_31, i_32, i_39, i_40, i_41, i_42, i_43, i_44, i_45, i_47, i_48, i_49, i_50, i_51, i_52, i_57, i_59, i_60, i_61, i_62, i_63, i_64, i_71, i_72, i_80, i_91, i_93, i_97, i_99, i_100, i_122, i_227, i_228, i_232, i_251, i_255, i_256, i_463, i_999, i_1000, i_1519, i_1600, i_9999, i_100000000, i_2147483639, i_2147483647, neg_nI1, nI_add, pk_mul, nI_remL, pk_sub, pk_div, nI_clamp, nI_leI, nI_ltI, nI_eq, vpT, nI_m1, m1_nI, nI_lem1, m1_le, m1_lt, nI_ltm1, nI_bit, nI_shl, nI_xor, nI_or, n_rem, forall_eq, true_and, and_true, implies_true, true_implies, false_implies, not_true_eq_false, not_false_eq_true, Nat.zero_add, Nat.add_zero, ite_true, ite_false, if_true, if_false, true_or, or_true, false_or, or_false, and_self, and_false, false_and, Nat.reduceEqDiff, reduceIte]
  refine ⟨by omega, ml_isAsked (th := 1) (sil := 0) hP hN hS (Nat.div_lt_of_lt_mul (by rw [Nat.mul_comm]; exact hi)) (Nat.mod_lt _ hT0) h57 (by decide) h60 (by decide) (fun z => by omega) (fun σ' hF hN' hS' _ _ => ?_)⟩
  have h9 := hQ σ' hF hN' hS'
  have hw := zWo_lt P 0 s (i / nT P) (i % nT P)
  unfold shI at h9
  simp (disch := omega) only [i_0, i_1, i_2, i_3, i_4, i_5, i_6, i_7, i_8, i_9, i_10, i_11, i_12, i_13, i_16, i_19, i_20, i_21, i_22, i_23, i_24, i_25, i_30, i_31, i_32, i_39, i_40, i_41, i_42, i_43, i_44, i_45, i_47, i_48, i_49, i_50, i_51, i_52, i_57, i_59, i_60, i_61, i_62, i_63, i_64, i_71, i_72, i_80, i_91, i_93, i_97, i_99, i_100, i_122, i_227, i_228, i_232, i_251, i_255, i_256, i_463, i_999, i_1000, i_1519, i_1600, i_9999, i_100000000, i_2147483639, i_2147483647, neg_nI1, nI_add, pk_mul, nI_remL, pk_sub, pk_div, nI_clamp, nI_leI, nI_ltI, nI_eq, vpT, nI_m1, m1_nI, nI_lem1, m1_le, m1_lt, nI_ltm1, nI_bit, nI_shl, nI_xor, nI_or, n_rem, forall_eq, true_and, and_true, implies_true, true_implies, false_implies, not_true_eq_false, not_false_eq_true, Nat.zero_add, Nat.add_zero, ite_true, ite_false, if_true, if_false, true_or, or_true, false_or, or_false, and_self, and_false, false_and, Nat.reduceEqDiff, reduceIte]
  refine ⟨fun z => ?_, fun z => ?_⟩
  · rw [if_neg z] at h9; exact h9
  · rw [if_pos z] at h9; exact h9
/-- what a plan is asked for -/
def mPq (σ : FS) (s0 : St) (u hh st : Nat) : Prop := fI σ 0 65 = nI (c7 u) ∧ fI σ 0 66 = nI hh ∧ fI σ 0 67 = nI (c7 st) ∧ fI σ 0 68 = nI (zH s0 st)
theorem mPq.fm {ks as bs : List Nat} {σ σ' : FS} {s0 : St} {u hh st : Nat} (h : mPq σ s0 u hh st) (f : Fm ks as bs σ σ') (hk : ∀ k ∈ ([65, 66, 67, 68] : List Nat), k ∉ ks) : mPq σ' s0 u hh st := ⟨by rw [f.1 65 (hk 65 (by decide))]; exact h.1, by rw [f.1 66 (hk 66 (by decide))]; exact h.2.1, by rw [f.1 67 (hk 67 (by decide))]; exact h.2.2.1, by rw [f.1 68 (hk 68 (by decide))]; exact h.2.2.2⟩
theorem ml_isSo {σ : FS} {P : Pl} {s s0 : St} {u hh st : Nat} {Q : Int32 → FS → Prop} (hP : mP σ P) (hN : mN σ P s) (hq : mPq σ s0 u hh st) (hu : isC P u) (hst : isC P st) (hh9 : hh ≤ 99) (h09 : zH s0 st ≤ 99) (hQ : Q (nI (if soS s0 u hh st s = true then 1 else 0)) σ) : mw_isSo σ Q := by
  unfold mw_isSo
  rw [hq.1]
  have g1 := hN.1.2.1 u hu
  have g2 := hN.1.2.1 st hst
  refine ml_heightOf hP hN hu ?_
  rw [hq.2.1, hq.2.2.1]
  simp (disch := omega) only [i_0, i_1, i_2, i_3, i_4, i_5, i_6, i_7, i_8, i_9, i_10, i_11, i_12, i_13, i_16, i_19, i_20, i_21, i_22, i_23, i_24, i_25, i_30, i_31, i_32, i_39, i_40, i_41, i_42, i_43, i_44, i_45, i_47, i_48, i_49, i_50, i_51, i_52, i_57, i_59, i_60, i_61, i_62, i_63, i_64, i_71, i_72, i_80, i_91, i_93, i_97, i_99, i_100, i_122, i_227, i_228, i_232, i_251, i_255, i_256, i_463, i_999, i_1000, i_1519, i_1600, i_9999, i_100000000, i_2147483639, i_2147483647, neg_nI1, nI_add, pk_mul, nI_remL, pk_sub, pk_div, nI_clamp, nI_leI, nI_ltI, nI_eq, vpT, nI_m1, m1_nI, nI_lem1, m1_le, m1_lt, nI_ltm1, nI_bit, nI_shl, nI_xor, nI_or, n_rem, forall_eq, true_and, and_true, implies_true, true_implies, false_implies, not_true_eq_false, not_false_eq_true, Nat.zero_add, Nat.add_zero, ite_true, ite_false, if_true, if_false, true_or, or_true, false_or, or_false, and_self, and_false, false_and, Nat.reduceEqDiff, reduceIte]
  unfold soS at hQ
  refine ⟨fun z => ?_, fun z => ml_heightOf hP hN hst ?_⟩
  · rw [if_neg (by simp; omega)] at hQ; exact hQ
  · rw [hq.2.2.2]
    simp (disch := omega) only [i_0, i_1, i_2, i_3, i_4, i_5, i_6, i_7, i_8, i_9, i_10, i_11, i_12, i_13, i_16, i_19, i_20, i_21, i_22, i_23, i_24, i_25, i_30, i_31, i_32, i_39, i_40, i_41, i_42, i_43, i_44, i_45, i_47, i_48, i_49, i_50, i_51, i_52, i_57, i_59, i_60, i_61, i_62, i_63, i_64, i_71, i_72, i_80, i_91, i_93, i_97, i_99, i_100, i_122, i_227, i_228, i_232, i_251, i_255, i_256, i_463, i_999, i_1000, i_1519, i_1600, i_9999, i_100000000, i_2147483639, i_2147483647, neg_nI1, nI_add, pk_mul, nI_remL, pk_sub, pk_div, nI_clamp, nI_leI, nI_ltI, nI_eq, vpT, nI_m1, m1_nI, nI_lem1, m1_le, m1_lt, nI_ltm1, nI_bit, nI_shl, nI_xor, nI_or, n_rem, forall_eq, true_and, and_true, implies_true, true_implies, false_implies, not_true_eq_false, not_false_eq_true, Nat.zero_add, Nat.add_zero, ite_true, ite_false, if_true, if_false, true_or, or_true, false_or, or_false, and_self, and_false, false_and, Nat.reduceEqDiff, reduceIte]
    refine ⟨fun z2 => ?_, fun z2 => ?_⟩
    · rw [if_neg (by simp; omega)] at hQ; exact hQ
    · rw [if_pos (by simp; omega)] at hQ; exact hQ
abbrev kPl : List Nat := [65, 66, 67, 68]
abbrev aPl : List Nat := [62, 63, 64]
theorem mNf_cp {P : Pl} {s : St} {f g : Nat → Int32} (hP : plOK P) (h : mNf f P s) (e : ∀ k, k < 71 → g k = f k) : mNf g P s := h.eqv (Or.inl hP) e
theorem ml_isOne {σ0 σ : FS} {P : Pl} {s : St} {u hh st : Nat} {Q : Int32 → FS → Prop} (hP : mP σ0 P) (hN : mN σ0 P s) (hT : Thx kPl aPl 0 σ0 σ) (e52 : fA σ 52 = fA σ0 52) (hS : mSd σ) (hq : mPq σ s u hh st) (hu : isC P u) (hst : isC P st) (hh9 : hh ≤ 99)
    (hs : ∀ σ' i, planP P s u hh st 1 s = some [i] → Thx kPl aPl 0 σ0 σ' → fA σ' 52 = fA σ0 52 → mSd σ' → fA σ' 62 0 = nI i → Q (nI 1) σ') (h0 : ∀ σ', planP P s u hh st 1 s = none → Thx kPl aPl 0 σ0 σ' → fA σ' 52 = fA σ0 52 → mSd σ' → mPq σ' s u hh st → Q (nI 0) σ') : mw_isOne σ Q := by
  have h35 := nn_le hP.1
  have h09 := hN.1.2.1 st hst
  unfold mw_isOne mw_isOne_2
  intro X hX
  have key : ∀ n k (σ1 : FS), nP P * nT P - k = n → k ≤ nP P * nT P → ((List.range (nP P * nT P)).drop k).findSome? (fun i => if shI P s i = 2 then (planP P s u hh st 0 (asI P s i)).map (fun l => i :: l) else none) = planP P s u hh st 1 s → Thx kPl aPl 0 σ0 σ1 → fA σ1 52 = fA σ0 52 → mSd σ1 → mPq σ1 s u hh st → X (nI k) σ1 := by
    intro n
    induction n with
    | zero =>
      intro k σ1 hn hk he hT1 e1 hS1 hq1
      have hP1 := hT1.p hP (by decide) (by decide)
      refine hX _ _ (ml_askingMany hP1 ⟨fun _ => h0 σ1 ?_ hT1 e1 hS1 hq1, fun z => absurd ((nI_leI (by omega) (by omega)).mpr (by omega)) z⟩)
      rw [← he, rng_end (by omega)]; rfl
    | succ n ih =>
      intro k σ1 hn hk he hT1 e1 hS1 hq1
      have hP1 := hT1.p hP (by decide) (by decide)
      rw [rng_at (by omega), List.findSome?_cons] at he
      refine hX _ _ (ml_askingMany hP1 ⟨fun z => absurd ((nI_leI (by omega) (by omega)).mp z) (by omega), fun _ => ?_⟩)
      simp (disch := omega) only [i_0, i_1, i_2, i_3, i_4, i_5, i_6, i_7, i_8, i_9, i_10, i_11, i_12, i_13, i_16, i_19, i_20, i_21, i_22, i_23, i_24, i_25, i_30, i_31, i_32, i_39, i_40, i_41, i_42, i_43, i_44, i_45, i_47, i_48, i_49, i_50, i_51, i_52, i_57, i_59, i_60, i_61, i_62, i_63, i_64, i_71, i_72, i_80, i_91, i_93, i_97, i_99, i_100, i_122, i_227, i_228, i_232, i_251, i_255, i_256, i_463, i_999, i_1000, i_1519, i_1600, i_9999, i_100000000, i_2147483639, i_2147483647, neg_nI1, nI_add, pk_mul, nI_remL, pk_sub, pk_div, nI_clamp, nI_leI, nI_ltI, nI_eq, vpT, nI_m1, m1_nI, nI_lem1, m1_le, m1_lt, nI_ltm1, nI_bit, nI_shl, nI_xor, nI_or, n_rem, forall_eq, true_and, and_true, implies_true, true_implies, false_implies, not_true_eq_false, not_false_eq_true, Nat.zero_add, Nat.add_zero, ite_true, ite_false, if_true, if_false, true_or, or_true, false_or, or_false, and_self, and_false, false_and, Nat.reduceEqDiff, reduceIte]
      have hFa : Fm [] [62] [] σ1 (sA σ1 62 0 (nI k)) := Fm.sA σ1 _ _ (by decide)
      have hT2 := hT1.arr hFa (by decide) (by decide) (by decide)
      have hP2 := hT2.p hP (by decide) (by decide)
      refine ml_doesShrug hP2 (hN.eqv (by rw [hFa.2.1 52 (by decide)]; exact e1)) (hS1.eqv rfl) hT2.2.1 hT2.2.2.1 (by omega) (fun σ3 hF3 hN3 hS3 => ?_)
      have hT3 := hT2.step hF3 (hN3.2.2 (by decide))
      have e62 : fA σ3 62 0 = nI k := by rw [hF3.2.1 62 (by decide), fA_sA, if_pos ⟨rfl, rfl⟩]
      have hq3 := (hq1.fm hFa (by decide)).fm hF3 (by decide)
      have next : ((List.range (nP P * nT P)).drop (k + 1)).findSome? (fun i => if shI P s i = 2 then (planP P s u hh st 0 (asI P s i)).map (fun l => i :: l) else none) = planP P s u hh st 1 s → mw_isOne_36 X (nI k) σ3 Q := by
        intro he2
        unfold mw_isOne_36 mw_isOne_37
        refine ml_anewX hT3 hS3 (fun σ4 hT4 e4 hS4 hF4 => ?_)
        simp (disch := omega) only [i_0, i_1, i_2, i_3, i_4, i_5, i_6, i_7, i_8, i_9, i_10, i_11, i_12, i_13, i_16, i_19, i_20, i_21, i_22, i_23, i_24, i_25, i_30, i_31, i_32, i_39, i_40, i_41, i_42, i_43, i_44, i_45, i_47, i_48, i_49, i_50, i_51, i_52, i_57, i_59, i_60, i_61, i_62, i_63, i_64, i_71, i_72, i_80, i_91, i_93, i_97, i_99, i_100, i_122, i_227, i_228, i_232, i_251, i_255, i_256, i_463, i_999, i_1000, i_1519, i_1600, i_9999, i_100000000, i_2147483639, i_2147483647, neg_nI1, nI_add, pk_mul, nI_remL, pk_sub, pk_div, nI_clamp, nI_leI, nI_ltI, nI_eq, vpT, nI_m1, m1_nI, nI_lem1, m1_le, m1_lt, nI_ltm1, nI_bit, nI_shl, nI_xor, nI_or, n_rem, forall_eq, true_and, and_true, implies_true, true_implies, false_implies, not_true_eq_false, not_false_eq_true, Nat.zero_add, Nat.add_zero, ite_true, ite_false, if_true, if_false, true_or, or_true, false_or, or_false, and_self, and_false, false_and, Nat.reduceEqDiff, reduceIte]
        exact ih (k + 1) σ4 (by omega) (by omega) he2 hT4 e4 hS4 (hq3.fm hF4 (by decide))
      by_cases z : shI P s k = 2
      · rw [if_pos z] at he ⊢
        simp (disch := omega) only [i_0, i_1, i_2, i_3, i_4, i_5, i_6, i_7, i_8, i_9, i_10, i_11, i_12, i_13, i_16, i_19, i_20, i_21, i_22, i_23, i_24, i_25, i_30, i_31, i_32, i_39, i_40, i_41, i_42, i_43, i_44, i_45, i_47, i_48, i_49, i_50, i_51, i_52, i_57, i_59, i_60, i_61, i_62, i_63, i_64, i_71, i_72, i_80, i_91, i_93, i_97, i_99, i_100, i_122, i_227, i_228, i_232, i_251, i_255, i_256, i_463, i_999, i_1000, i_1519, i_1600, i_9999, i_100000000, i_2147483639, i_2147483647, neg_nI1, nI_add, pk_mul, nI_remL, pk_sub, pk_div, nI_clamp, nI_leI, nI_ltI, nI_eq, vpT, nI_m1, m1_nI, nI_lem1, m1_le, m1_lt, nI_ltm1, nI_bit, nI_shl, nI_xor, nI_or, n_rem, forall_eq, true_and, and_true, implies_true, true_implies, false_implies, not_true_eq_false, not_false_eq_true, Nat.zero_add, Nat.add_zero, ite_true, ite_false, if_true, if_false, true_or, or_true, false_or, or_false, and_self, and_false, false_and, Nat.reduceEqDiff, reduceIte]
        refine ml_isSo (hT3.p hP (by decide) (by decide)) hN3.1 hq3 hu hst hh9 h09 ?_
        simp only [planP] at he
        by_cases z2 : soS s u hh st (asI P s k) = true
        · rw [if_pos z2] at he ⊢
          simp (disch := omega) only [i_0, i_1, i_2, i_3, i_4, i_5, i_6, i_7, i_8, i_9, i_10, i_11, i_12, i_13, i_16, i_19, i_20, i_21, i_22, i_23, i_24, i_25, i_30, i_31, i_32, i_39, i_40, i_41, i_42, i_43, i_44, i_45, i_47, i_48, i_49, i_50, i_51, i_52, i_57, i_59, i_60, i_61, i_62, i_63, i_64, i_71, i_72, i_80, i_91, i_93, i_97, i_99, i_100, i_122, i_227, i_228, i_232, i_251, i_255, i_256, i_463, i_999, i_1000, i_1519, i_1600, i_9999, i_100000000, i_2147483639, i_2147483647, neg_nI1, nI_add, pk_mul, nI_remL, pk_sub, pk_div, nI_clamp, nI_leI, nI_ltI, nI_eq, vpT, nI_m1, m1_nI, nI_lem1, m1_le, m1_lt, nI_ltm1, nI_bit, nI_shl, nI_xor, nI_or, n_rem, forall_eq, true_and, and_true, implies_true, true_implies, false_implies, not_true_eq_false, not_false_eq_true, Nat.zero_add, Nat.add_zero, ite_true, ite_false, if_true, if_false, true_or, or_true, false_or, or_false, and_self, and_false, false_and, Nat.reduceEqDiff, reduceIte]
          unfold mw_isOne_37
          refine ml_anewX hT3 hS3 (fun σ4 hT4 e4 hS4 hF4 => ?_)
          simp (disch := omega) only [i_0, i_1, i_2, i_3, i_4, i_5, i_6, i_7, i_8, i_9, i_10, i_11, i_12, i_13, i_16, i_19, i_20, i_21, i_22, i_23, i_24, i_25, i_30, i_31, i_32, i_39, i_40, i_41, i_42, i_43, i_44, i_45, i_47, i_48, i_49, i_50, i_51, i_52, i_57, i_59, i_60, i_61, i_62, i_63, i_64, i_71, i_72, i_80, i_91, i_93, i_97, i_99, i_100, i_122, i_227, i_228, i_232, i_251, i_255, i_256, i_463, i_999, i_1000, i_1519, i_1600, i_9999, i_100000000, i_2147483639, i_2147483647, neg_nI1, nI_add, pk_mul, nI_remL, pk_sub, pk_div, nI_clamp, nI_leI, nI_ltI, nI_eq, vpT, nI_m1, m1_nI, nI_lem1, m1_le, m1_lt, nI_ltm1, nI_bit, nI_shl, nI_xor, nI_or, n_rem, forall_eq, true_and, and_true, implies_true, true_implies, false_implies, not_true_eq_false, not_false_eq_true, Nat.zero_add, Nat.add_zero, ite_true, ite_false, if_true, if_false, true_or, or_true, false_or, or_false, and_self, and_false, false_and, Nat.reduceEqDiff, reduceIte]
          refine hs σ4 k ?_ hT4 e4 hS4 (by rw [hF4.2.1 62 (by decide)]; exact e62)
          simp only [Option.map_some] at he
          exact he.symm
        · rw [if_neg z2] at he ⊢
          simp (disch := omega) only [i_0, i_1, i_2, i_3, i_4, i_5, i_6, i_7, i_8, i_9, i_10, i_11, i_12, i_13, i_16, i_19, i_20, i_21, i_22, i_23, i_24, i_25, i_30, i_31, i_32, i_39, i_40, i_41, i_42, i_43, i_44, i_45, i_47, i_48, i_49, i_50, i_51, i_52, i_57, i_59, i_60, i_61, i_62, i_63, i_64, i_71, i_72, i_80, i_91, i_93, i_97, i_99, i_100, i_122, i_227, i_228, i_232, i_251, i_255, i_256, i_463, i_999, i_1000, i_1519, i_1600, i_9999, i_100000000, i_2147483639, i_2147483647, neg_nI1, nI_add, pk_mul, nI_remL, pk_sub, pk_div, nI_clamp, nI_leI, nI_ltI, nI_eq, vpT, nI_m1, m1_nI, nI_lem1, m1_le, m1_lt, nI_ltm1, nI_bit, nI_shl, nI_xor, nI_or, n_rem, forall_eq, true_and, and_true, implies_true, true_implies, false_implies, not_true_eq_false, not_false_eq_true, Nat.zero_add, Nat.add_zero, ite_true, ite_false, if_true, if_false, true_or, or_true, false_or, or_false, and_self, and_false, false_and, Nat.reduceEqDiff, reduceIte]
          exact next he
      · rw [if_neg z] at he ⊢
        simp (disch := omega) only [i_0, i_1, i_2, i_3, i_4, i_5, i_6, i_7, i_8, i_9, i_10, i_11, i_12, i_13, i_16, i_19, i_20, i_21, i_22, i_23, i_24, i_25, i_30, i_31, i_32, i_39, i_40, i_41, i_42, i_43, i_44, i_45, i_47, i_48, i_49, i_50, i_51, i_52, i_57, i_59, i_60, i_61, i_62, i_63, i_64, i_71, i_72, i_80, i_91, i_93, i_97, i_99, i_100, i_122, i_227, i_228, i_232, i_251, i_255, i_256, i_463, i_999, i_1000, i_1519, i_1600, i_9999, i_100000000, i_2147483639, i_2147483647, neg_nI1, nI_add, pk_mul, nI_remL, pk_sub, pk_div, nI_clamp, nI_leI, nI_ltI, nI_eq, vpT, nI_m1, m1_nI, nI_lem1, m1_le, m1_lt, nI_ltm1, nI_bit, nI_shl, nI_xor, nI_or, n_rem, forall_eq, true_and, and_true, implies_true, true_implies, false_implies, not_true_eq_false, not_false_eq_true, Nat.zero_add, Nat.add_zero, ite_true, ite_false, if_true, if_false, true_or, or_true, false_or, or_false, and_self, and_false, false_and, Nat.reduceEqDiff, reduceIte]
        exact next he
  exact key _ 0 σ rfl (by omega) rfl hT e52 hS hq
