/-! THE REFERENCE: what was told stands -/
def Cpy {α : Type} (f s g : Nat → α) (off j : Nat) : Prop := ∀ i, g i = if off ≤ i ∧ i < off + j then s (i - off) else f i
theorem Cpy.z {α : Type} {f s : Nat → α} {off : Nat} : Cpy f s f off 0 := fun i => by rw [if_neg (by omega)]
theorem Cpy.s {α : Type} {f s g g' : Nat → α} {off j : Nat} (h : Cpy f s g off j) (hg : ∀ i, g' i = if i = off + j then s j else g i) : Cpy f s g' off (j + 1) := by
  intro i
  rw [hg i]
  by_cases z : i = off + j
  · rw [if_pos z, if_pos ⟨by omega, by omega⟩, z, show off + j - off = j by omega]
  · rw [if_neg z, h i]
    by_cases z2 : off ≤ i ∧ i < off + j
    · rw [if_pos z2, if_pos ⟨z2.1, by omega⟩]
    · rw [if_neg z2, if_neg (by omega)]
theorem Cpy.at {α : Type} {f s g : Nat → α} {off j i : Nat} (h : Cpy f s g off j) (hi : i < j) : g (off + i) = s i := by rw [h, if_pos ⟨by omega, by omega⟩, show off + i - off = i by omega]
theorem Cpy.lo {α : Type} {f s g : Nat → α} {off j i : Nat} (h : Cpy f s g off j) (hi : i < off) : g i = f i := by rw [h, if_neg (by omega)]
theorem ml_st216 {σ : FS} {Q : FS → Prop} {p : Nat} (hp : fA σ 40 1 = nI p) (hp7 : p ≤ 7) (hQ : ∀ σ', Fm [] [52] [] σ σ' → Cpy (fA σ 52) (fA σ 43) (fA σ' 52) 50 (3 * p) → Q (sI (sI σ' 0 76 (nI 0)) 0 71 (nI 0))) : mw_stands_216 (nI 0) σ Q := by
  unfold mw_stands_216
  intro X hX
  have key : ∀ m j σ1, j + m = (3 * p) → Fm [] [52] [] σ σ1 → Cpy (fA σ 52) (fA σ 43) (fA σ1 52) 50 j → X (nI j) σ1 := by
    intro m
    induction m with
    | zero =>
      intro j σ1 hj hF hc
      have hjN : j = (3 * p) := by omega
      rw [hjN] at hc ⊢
      refine hX _ _ ?_
      simp (disch := omega) only [i_0, i_1, i_2, i_3, i_4, i_5, i_6, i_7, i_8, i_9, i_10, i_11, i_12, i_13, i_16, i_19, i_20, i_21, i_22, i_23, i_24, i_25, i_30, i_31, i_32, i_39, i_40, i_41, i_42, i_43, i_44, i_45, i_47, i_48, i_49, i_50, i_51, i_52, i_57, i_59, i_60, i_61, i_62, i_63, i_64, i_71, i_72, i_80, i_91, i_93, i_97, i_99, i_100, i_122, i_227, i_228, i_232, i_251, i_255, i_256, i_463, i_999, i_1000, i_1519, i_1600, i_9999, i_100000000, i_2147483639, i_2147483647, neg_nI1, nI_add, pk_mul, nI_remL, pk_sub, pk_div, nI_clamp, nI_leI, nI_ltI, nI_eq, vpT, nI_m1, m1_nI, nI_lem1, m1_le, m1_lt, nI_ltm1, nI_bit, nI_shl, nI_xor, nI_or, n_rem, forall_eq, true_and, and_true, implies_true, true_implies, false_implies, not_true_eq_false, not_false_eq_true, Nat.zero_add, Nat.add_zero, ite_true, ite_false, if_true, if_false, true_or, or_true, false_or, or_false, and_self, and_false, false_and, Nat.reduceEqDiff, reduceIte]
      rw [show fA σ1 40 1 = nI p by rw [hF.2.1 40 (by decide)]; exact hp]
      simp (disch := omega) only [i_0, i_1, i_2, i_3, i_4, i_5, i_6, i_7, i_8, i_9, i_10, i_11, i_12, i_13, i_16, i_19, i_20, i_21, i_22, i_23, i_24, i_25, i_30, i_31, i_32, i_39, i_40, i_41, i_42, i_43, i_44, i_45, i_47, i_48, i_49, i_50, i_51, i_52, i_57, i_59, i_60, i_61, i_62, i_63, i_64, i_71, i_72, i_80, i_91, i_93, i_97, i_99, i_100, i_122, i_227, i_228, i_232, i_251, i_255, i_256, i_463, i_999, i_1000, i_1519, i_1600, i_9999, i_100000000, i_2147483639, i_2147483647, neg_nI1, nI_add, pk_mul, nI_remL, pk_sub, pk_div, nI_clamp, nI_leI, nI_ltI, nI_eq, vpT, nI_m1, m1_nI, nI_lem1, m1_le, m1_lt, nI_ltm1, nI_bit, nI_shl, nI_xor, nI_or, n_rem, forall_eq, true_and, and_true, implies_true, true_implies, false_implies, not_true_eq_false, not_false_eq_true, Nat.zero_add, Nat.add_zero, ite_true, ite_false, if_true, if_false, true_or, or_true, false_or, or_false, and_self, and_false, false_and, Nat.reduceEqDiff, reduceIte]
      first
        | exact hQ σ1 hF hc
        | exact ⟨fun _ => hQ σ1 hF hc, fun z => absurd (Nat.le_refl _) z⟩
        | exact ⟨fun _ => hQ σ1 hF hc, fun z => by omega⟩
    | succ m ih =>
      intro j σ1 hj hF hc
      refine hX _ _ ?_
      simp (disch := omega) only [i_0, i_1, i_2, i_3, i_4, i_5, i_6, i_7, i_8, i_9, i_10, i_11, i_12, i_13, i_16, i_19, i_20, i_21, i_22, i_23, i_24, i_25, i_30, i_31, i_32, i_39, i_40, i_41, i_42, i_43, i_44, i_45, i_47, i_48, i_49, i_50, i_51, i_52, i_57, i_59, i_60, i_61, i_62, i_63, i_64, i_71, i_72, i_80, i_91, i_93, i_97, i_99, i_100, i_122, i_227, i_228, i_232, i_251, i_255, i_256, i_463, i_999, i_1000, i_1519, i_1600, i_9999, i_100000000, i_2147483639, i_2147483647, neg_nI1, nI_add, pk_mul, nI_remL, pk_sub, pk_div, nI_clamp, nI_leI, nI_ltI, nI_eq, vpT, nI_m1, m1_nI, nI_lem1, m1_le, m1_lt, nI_ltm1, nI_bit, nI_shl, nI_xor, nI_or, n_rem, forall_eq, true_and, and_true, implies_true, true_implies, false_implies, not_true_eq_false, not_false_eq_true, Nat.zero_add, Nat.add_zero, ite_true, ite_false, if_true, if_false, true_or, or_true, false_or, or_false, and_self, and_false, false_and, Nat.reduceEqDiff, reduceIte]
      rw [show fA σ1 40 1 = nI p by rw [hF.2.1 40 (by decide)]; exact hp]
      simp (disch := omega) only [i_0, i_1, i_2, i_3, i_4, i_5, i_6, i_7, i_8, i_9, i_10, i_11, i_12, i_13, i_16, i_19, i_20, i_21, i_22, i_23, i_24, i_25, i_30, i_31, i_32, i_39, i_40, i_41, i_42, i_43, i_44, i_45, i_47, i_48, i_49, i_50, i_51, i_52, i_57, i_59, i_60, i_61, i_62, i_63, i_64, i_71, i_72, i_80, i_91, i_93, i_97, i_99, i_100, i_122, i_227, i_228, i_232, i_251, i_255, i_256, i_463, i_999, i_1000, i_1519, i_1600, i_9999, i_100000000, i_2147483639, i_2147483647, neg_nI1, nI_add, pk_mul, nI_remL, pk_sub, pk_div, nI_clamp, nI_leI, nI_ltI, nI_eq, vpT, nI_m1, m1_nI, nI_lem1, m1_le, m1_lt, nI_ltm1, nI_bit, nI_shl, nI_xor, nI_or, n_rem, forall_eq, true_and, and_true, implies_true, true_implies, false_implies, not_true_eq_false, not_false_eq_true, Nat.zero_add, Nat.add_zero, ite_true, ite_false, if_true, if_false, true_or, or_true, false_or, or_false, and_self, and_false, false_and, Nat.reduceEqDiff, reduceIte]
      have nx := ih (j + 1) (sA σ1 52 (50 + j) (fA σ1 43 j)) (by omega) (hF.trans (Fm.sA σ1 _ _ (by decide))) (hc.s (fun i => by
        rw [fA_sA]
        by_cases z : i = 50 + j
        · rw [if_pos ⟨rfl, z⟩, if_pos z]
          rw [hF.2.1 43 (by decide)]
        · rw [if_neg (fun q => z q.2), if_neg z]))
      first
        | exact nx
        | exact ⟨fun z => by omega, fun _ => nx⟩
  exact key (3 * p) 0 σ (by omega) (Fm.refl _ _ _ _) Cpy.z
theorem ml_st188 {σ : FS} {Q : FS → Prop} (hQ : ∀ σ', Fm [] [52] [] σ σ' → Cpy (fA σ 52) (fA σ 42) (fA σ' 52) 1 49 → mw_stands_216 (nI 0) σ' Q) : mw_stands_188 (nI 0) σ Q := by
  unfold mw_stands_188
  intro X hX
  have key : ∀ m j σ1, j + m = 49 → Fm [] [52] [] σ σ1 → Cpy (fA σ 52) (fA σ 42) (fA σ1 52) 1 j → X (nI j) σ1 := by
    intro m
    induction m with
    | zero =>
      intro j σ1 hj hF hc
      have hjN : j = 49 := by omega
      rw [hjN] at hc ⊢
      refine hX _ _ ?_
      simp (disch := omega) only [i_0, i_1, i_2, i_3, i_4, i_5, i_6, i_7, i_8, i_9, i_10, i_11, i_12, i_13, i_16, i_19, i_20, i_21, i_22, i_23, i_24, i_25, i_30, i_31, i_32, i_39, i_40, i_41, i_42, i_43, i_44, i_45, i_47, i_48, i_49, i_50, i_51, i_52, i_57, i_59, i_60, i_61, i_62, i_63, i_64, i_71, i_72, i_80, i_91, i_93, i_97, i_99, i_100, i_122, i_227, i_228, i_232, i_251, i_255, i_256, i_463, i_999, i_1000, i_1519, i_1600, i_9999, i_100000000, i_2147483639, i_2147483647, neg_nI1, nI_add, pk_mul, nI_remL, pk_sub, pk_div, nI_clamp, nI_leI, nI_ltI, nI_eq, vpT, nI_m1, m1_nI, nI_lem1, m1_le, m1_lt, nI_ltm1, nI_bit, nI_shl, nI_xor, nI_or, n_rem, forall_eq, true_and, and_true, implies_true, true_implies, false_implies, not_true_eq_false, not_false_eq_true, Nat.zero_add, Nat.add_zero, ite_true, ite_false, if_true, if_false, true_or, or_true, false_or, or_false, and_self, and_false, false_and, Nat.reduceEqDiff, reduceIte]
      first
        | exact hQ σ1 hF hc
        | exact ⟨fun _ => hQ σ1 hF hc, fun z => absurd (Nat.le_refl _) z⟩
        | exact ⟨fun _ => hQ σ1 hF hc, fun z => by omega⟩
    | succ m ih =>
      intro j σ1 hj hF hc
      refine hX _ _ ?_
      simp (disch := omega) only [i_0, i_1, i_2, i_3, i_4, i_5, i_6, i_7, i_8, i_9, i_10, i_11, i_12, i_13, i_16, i_19, i_20, i_21, i_22, i_23, i_24, i_25, i_30, i_31, i_32, i_39, i_40, i_41, i_42, i_43, i_44, i_45, i_47, i_48, i_49, i_50, i_51, i_52, i_57, i_59, i_60, i_61, i_62, i_63, i_64, i_71, i_72, i_80, i_91, i_93, i_97, i_99, i_100, i_122, i_227, i_228, i_232, i_251, i_255, i_256, i_463, i_999, i_1000, i_1519, i_1600, i_9999, i_100000000, i_2147483639, i_2147483647, neg_nI1, nI_add, pk_mul, nI_remL, pk_sub, pk_div, nI_clamp, nI_leI, nI_ltI, nI_eq, vpT, nI_m1, m1_nI, nI_lem1, m1_le, m1_lt, nI_ltm1, nI_bit, nI_shl, nI_xor, nI_or, n_rem, forall_eq, true_and, and_true, implies_true, true_implies, false_implies, not_true_eq_false, not_false_eq_true, Nat.zero_add, Nat.add_zero, ite_true, ite_false, if_true, if_false, true_or, or_true, false_or, or_false, and_self, and_false, false_and, Nat.reduceEqDiff, reduceIte]
      have nx := ih (j + 1) (sA σ1 52 (1 + j) (fA σ1 42 j)) (by omega) (hF.trans (Fm.sA σ1 _ _ (by decide))) (hc.s (fun i => by
        rw [fA_sA]
        by_cases z : i = 1 + j
        · rw [if_pos ⟨rfl, z⟩, if_pos z]
          rw [hF.2.1 42 (by decide)]
        · rw [if_neg (fun q => z q.2), if_neg z]))
      first
        | exact nx
        | exact ⟨fun z => by omega, fun _ => nx⟩
  exact key 49 0 σ (by omega) (Fm.refl _ _ _ _) Cpy.z
theorem ml_st166 {σ : FS} {Q : FS → Prop} (hQ : ∀ σ', Fm [] [52] [] σ σ' → Cpy (fA σ 52) (fun _ => (nI 0)) (fA σ' 52) 0 232 → mw_stands_188 (nI 0) σ' Q) : mw_stands_166 (nI 0) σ Q := by
  unfold mw_stands_166
  intro X hX
  have key : ∀ m j σ1, j + m = 232 → Fm [] [52] [] σ σ1 → Cpy (fA σ 52) (fun _ => (nI 0)) (fA σ1 52) 0 j → X (nI j) σ1 := by
    intro m
    induction m with
    | zero =>
      intro j σ1 hj hF hc
      have hjN : j = 232 := by omega
      rw [hjN] at hc ⊢
      refine hX _ _ ?_
      simp (disch := omega) only [i_0, i_1, i_2, i_3, i_4, i_5, i_6, i_7, i_8, i_9, i_10, i_11, i_12, i_13, i_16, i_19, i_20, i_21, i_22, i_23, i_24, i_25, i_30, i_31, i_32, i_39, i_40, i_41, i_42, i_43, i_44, i_45, i_47, i_48, i_49, i_50, i_51, i_52, i_57, i_59, i_60, i_61, i_62, i_63, i_64, i_71, i_72, i_80, i_91, i_93, i_97, i_99, i_100, i_122, i_227, i_228, i_232, i_251, i_255, i_256, i_463, i_999, i_1000, i_1519, i_1600, i_9999, i_100000000, i_2147483639, i_2147483647, neg_nI1, nI_add, pk_mul, nI_remL, pk_sub, pk_div, nI_clamp, nI_leI, nI_ltI, nI_eq, vpT, nI_m1, m1_nI, nI_lem1, m1_le, m1_lt, nI_ltm1, nI_bit, nI_shl, nI_xor, nI_or, n_rem, forall_eq, true_and, and_true, implies_true, true_implies, false_implies, not_true_eq_false, not_false_eq_true, Nat.zero_add, Nat.add_zero, ite_true, ite_false, if_true, if_false, true_or, or_true, false_or, or_false, and_self, and_false, false_and, Nat.reduceEqDiff, reduceIte]
      first
        | exact hQ σ1 hF hc
        | exact ⟨fun _ => hQ σ1 hF hc, fun z => absurd (Nat.le_refl _) z⟩
        | exact ⟨fun _ => hQ σ1 hF hc, fun z => by omega⟩
    | succ m ih =>
      intro j σ1 hj hF hc
      refine hX _ _ ?_
      simp (disch := omega) only [i_0, i_1, i_2, i_3, i_4, i_5, i_6, i_7, i_8, i_9, i_10, i_11, i_12, i_13, i_16, i_19, i_20, i_21, i_22, i_23, i_24, i_25, i_30, i_31, i_32, i_39, i_40, i_41, i_42, i_43, i_44, i_45, i_47, i_48, i_49, i_50, i_51, i_52, i_57, i_59, i_60, i_61, i_62, i_63, i_64, i_71, i_72, i_80, i_91, i_93, i_97, i_99, i_100, i_122, i_227, i_228, i_232, i_251, i_255, i_256, i_463, i_999, i_1000, i_1519, i_1600, i_9999, i_100000000, i_2147483639, i_2147483647, neg_nI1, nI_add, pk_mul, nI_remL, pk_sub, pk_div, nI_clamp, nI_leI, nI_ltI, nI_eq, vpT, nI_m1, m1_nI, nI_lem1, m1_le, m1_lt, nI_ltm1, nI_bit, nI_shl, nI_xor, nI_or, n_rem, forall_eq, true_and, and_true, implies_true, true_implies, false_implies, not_true_eq_false, not_false_eq_true, Nat.zero_add, Nat.add_zero, ite_true, ite_false, if_true, if_false, true_or, or_true, false_or, or_false, and_self, and_false, false_and, Nat.reduceEqDiff, reduceIte]
      have nx := ih (j + 1) (sA σ1 52 (0 + j) (nI 0)) (by omega) (hF.trans (Fm.sA σ1 _ _ (by decide))) (hc.s (fun i => by
        rw [fA_sA]
        by_cases z : i = 0 + j
        · rw [if_pos ⟨rfl, z⟩, if_pos z]
        · rw [if_neg (fun q => z q.2), if_neg z]))
      rw [Nat.zero_add] at nx
      first
        | exact nx
        | exact ⟨fun z => by omega, fun _ => nx⟩
  exact key 232 0 σ (by omega) (Fm.refl _ _ _ _) Cpy.z
theorem ml_st134 {σ : FS} {Q : FS → Prop} {u : Nat} (hu : fI σ 0 48 = nI u) (hu16 : u ≤ 1600) (hQ : ∀ σ', Fm [] [47] [] σ σ' → Cpy (fA σ 47) (fA σ 47) (fA σ' 47) 1600 u → mw_stands_166 (nI 0) σ' Q) : mw_stands_134 (nI 0) σ Q := by
  unfold mw_stands_134
  intro X hX
  have key : ∀ m j σ1, j + m = u → Fm [] [47] [] σ σ1 → Cpy (fA σ 47) (fA σ 47) (fA σ1 47) 1600 j → X (nI j) σ1 := by
    intro m
    induction m with
    | zero =>
      intro j σ1 hj hF hc
      have hjN : j = u := by omega
      rw [hjN] at hc ⊢
      refine hX _ _ ?_
      rw [show fI σ1 0 48 = nI u by rw [hF.1 48 (by simp)]; exact hu]
      simp (disch := omega) only [i_0, i_1, i_2, i_3, i_4, i_5, i_6, i_7, i_8, i_9, i_10, i_11, i_12, i_13, i_16, i_19, i_20, i_21, i_22, i_23, i_24, i_25, i_30, i_31, i_32, i_39, i_40, i_41, i_42, i_43, i_44, i_45, i_47, i_48, i_49, i_50, i_51, i_52, i_57, i_59, i_60, i_61, i_62, i_63, i_64, i_71, i_72, i_80, i_91, i_93, i_97, i_99, i_100, i_122, i_227, i_228, i_232, i_251, i_255, i_256, i_463, i_999, i_1000, i_1519, i_1600, i_9999, i_100000000, i_2147483639, i_2147483647, neg_nI1, nI_add, pk_mul, nI_remL, pk_sub, pk_div, nI_clamp, nI_leI, nI_ltI, nI_eq, vpT, nI_m1, m1_nI, nI_lem1, m1_le, m1_lt, nI_ltm1, nI_bit, nI_shl, nI_xor, nI_or, n_rem, forall_eq, true_and, and_true, implies_true, true_implies, false_implies, not_true_eq_false, not_false_eq_true, Nat.zero_add, Nat.add_zero, ite_true, ite_false, if_true, if_false, true_or, or_true, false_or, or_false, and_self, and_false, false_and, Nat.reduceEqDiff, reduceIte]
      first
        | exact hQ σ1 hF hc
        | exact ⟨fun _ => hQ σ1 hF hc, fun z => absurd (Nat.le_refl _) z⟩
        | exact ⟨fun _ => hQ σ1 hF hc, fun z => by omega⟩
    | succ m ih =>
      intro j σ1 hj hF hc
      refine hX _ _ ?_
      rw [show fI σ1 0 48 = nI u by rw [hF.1 48 (by simp)]; exact hu]
      simp (disch := omega) only [i_0, i_1, i_2, i_3, i_4, i_5, i_6, i_7, i_8, i_9, i_10, i_11, i_12, i_13, i_16, i_19, i_20, i_21, i_22, i_23, i_24, i_25, i_30, i_31, i_32, i_39, i_40, i_41, i_42, i_43, i_44, i_45, i_47, i_48, i_49, i_50, i_51, i_52, i_57, i_59, i_60, i_61, i_62, i_63, i_64, i_71, i_72, i_80, i_91, i_93, i_97, i_99, i_100, i_122, i_227, i_228, i_232, i_251, i_255, i_256, i_463, i_999, i_1000, i_1519, i_1600, i_9999, i_100000000, i_2147483639, i_2147483647, neg_nI1, nI_add, pk_mul, nI_remL, pk_sub, pk_div, nI_clamp, nI_leI, nI_ltI, nI_eq, vpT, nI_m1, m1_nI, nI_lem1, m1_le, m1_lt, nI_ltm1, nI_bit, nI_shl, nI_xor, nI_or, n_rem, forall_eq, true_and, and_true, implies_true, true_implies, false_implies, not_true_eq_false, not_false_eq_true, Nat.zero_add, Nat.add_zero, ite_true, ite_false, if_true, if_false, true_or, or_true, false_or, or_false, and_self, and_false, false_and, Nat.reduceEqDiff, reduceIte]
      have nx := ih (j + 1) (sA σ1 47 (1600 + j) (fA σ1 47 j)) (by omega) (hF.trans (Fm.sA σ1 _ _ (by decide))) (hc.s (fun i => by
        rw [fA_sA]
        by_cases z : i = 1600 + j
        · rw [if_pos ⟨rfl, z⟩, if_pos z]
          exact hc.lo (by omega)
        · rw [if_neg (fun q => z q.2), if_neg z]))
      first
        | exact nx
        | exact ⟨fun z => by omega, fun _ => nx⟩
  exact key u 0 σ (by omega) (Fm.refl _ _ _ _) Cpy.z
theorem ml_st105 {σ : FS} {Q : FS → Prop} (hQ : ∀ σ', Fm [] [44] [] σ σ' → Cpy (fA σ 44) (fA σ 44) (fA σ' 44) 24 24 → mw_stands_134 (nI 0) σ' Q) : mw_stands_105 (nI 0) σ Q := by
  unfold mw_stands_105
  intro X hX
  have key : ∀ m j σ1, j + m = 24 → Fm [] [44] [] σ σ1 → Cpy (fA σ 44) (fA σ 44) (fA σ1 44) 24 j → X (nI j) σ1 := by
    intro m
    induction m with
    | zero =>
      intro j σ1 hj hF hc
      have hjN : j = 24 := by omega
      rw [hjN] at hc ⊢
      refine hX _ _ ?_
      simp (disch := omega) only [i_0, i_1, i_2, i_3, i_4, i_5, i_6, i_7, i_8, i_9, i_10, i_11, i_12, i_13, i_16, i_19, i_20, i_21, i_22, i_23, i_24, i_25, i_30, i_31, i_32, i_39, i_40, i_41, i_42, i_43, i_44, i_45, i_47, i_48, i_49, i_50, i_51, i_52, i_57, i_59, i_60, i_61, i_62, i_63, i_64, i_71, i_72, i_80, i_91, i_93, i_97, i_99, i_100, i_122, i_227, i_228, i_232, i_251, i_255, i_256, i_463, i_999, i_1000, i_1519, i_1600, i_9999, i_100000000, i_2147483639, i_2147483647, neg_nI1, nI_add, pk_mul, nI_remL, pk_sub, pk_div, nI_clamp, nI_leI, nI_ltI, nI_eq, vpT, nI_m1, m1_nI, nI_lem1, m1_le, m1_lt, nI_ltm1, nI_bit, nI_shl, nI_xor, nI_or, n_rem, forall_eq, true_and, and_true, implies_true, true_implies, false_implies, not_true_eq_false, not_false_eq_true, Nat.zero_add, Nat.add_zero, ite_true, ite_false, if_true, if_false, true_or, or_true, false_or, or_false, and_self, and_false, false_and, Nat.reduceEqDiff, reduceIte]
      first
        | exact hQ σ1 hF hc
        | exact ⟨fun _ => hQ σ1 hF hc, fun z => absurd (Nat.le_refl _) z⟩
        | exact ⟨fun _ => hQ σ1 hF hc, fun z => by omega⟩
    | succ m ih =>
      intro j σ1 hj hF hc
      refine hX _ _ ?_
      simp (disch := omega) only [i_0, i_1, i_2, i_3, i_4, i_5, i_6, i_7, i_8, i_9, i_10, i_11, i_12, i_13, i_16, i_19, i_20, i_21, i_22, i_23, i_24, i_25, i_30, i_31, i_32, i_39, i_40, i_41, i_42, i_43, i_44, i_45, i_47, i_48, i_49, i_50, i_51, i_52, i_57, i_59, i_60, i_61, i_62, i_63, i_64, i_71, i_72, i_80, i_91, i_93, i_97, i_99, i_100, i_122, i_227, i_228, i_232, i_251, i_255, i_256, i_463, i_999, i_1000, i_1519, i_1600, i_9999, i_100000000, i_2147483639, i_2147483647, neg_nI1, nI_add, pk_mul, nI_remL, pk_sub, pk_div, nI_clamp, nI_leI, nI_ltI, nI_eq, vpT, nI_m1, m1_nI, nI_lem1, m1_le, m1_lt, nI_ltm1, nI_bit, nI_shl, nI_xor, nI_or, n_rem, forall_eq, true_and, and_true, implies_true, true_implies, false_implies, not_true_eq_false, not_false_eq_true, Nat.zero_add, Nat.add_zero, ite_true, ite_false, if_true, if_false, true_or, or_true, false_or, or_false, and_self, and_false, false_and, Nat.reduceEqDiff, reduceIte]
      have nx := ih (j + 1) (sA σ1 44 (24 + j) (fA σ1 44 j)) (by omega) (hF.trans (Fm.sA σ1 _ _ (by decide))) (hc.s (fun i => by
        rw [fA_sA]
        by_cases z : i = 24 + j
        · rw [if_pos ⟨rfl, z⟩, if_pos z]
          exact hc.lo (by omega)
        · rw [if_neg (fun q => z q.2), if_neg z]))
      first
        | exact nx
        | exact ⟨fun z => by omega, fun _ => nx⟩
  exact key 24 0 σ (by omega) (Fm.refl _ _ _ _) Cpy.z
theorem ml_st76 {σ : FS} {Q : FS → Prop} (hQ : ∀ σ', Fm [] [] [41] σ σ' → Cpy (fB σ 41) (fB σ 41) (fB σ' 41) 16 16 → mw_stands_105 (nI 0) σ' Q) : mw_stands_76 (nI 0) σ Q := by
  unfold mw_stands_76
  intro X hX
  have key : ∀ m j σ1, j + m = 16 → Fm [] [] [41] σ σ1 → Cpy (fB σ 41) (fB σ 41) (fB σ1 41) 16 j → X (nI j) σ1 := by
    intro m
    induction m with
    | zero =>
      intro j σ1 hj hF hc
      have hjN : j = 16 := by omega
      rw [hjN] at hc ⊢
      refine hX _ _ ?_
      simp (disch := omega) only [i_0, i_1, i_2, i_3, i_4, i_5, i_6, i_7, i_8, i_9, i_10, i_11, i_12, i_13, i_16, i_19, i_20, i_21, i_22, i_23, i_24, i_25, i_30, i_31, i_32, i_39, i_40, i_41, i_42, i_43, i_44, i_45, i_47, i_48, i_49, i_50, i_51, i_52, i_57, i_59, i_60, i_61, i_62, i_63, i_64, i_71, i_72, i_80, i_91, i_93, i_97, i_99, i_100, i_122, i_227, i_228, i_232, i_251, i_255, i_256, i_463, i_999, i_1000, i_1519, i_1600, i_9999, i_100000000, i_2147483639, i_2147483647, neg_nI1, nI_add, pk_mul, nI_remL, pk_sub, pk_div, nI_clamp, nI_leI, nI_ltI, nI_eq, vpT, nI_m1, m1_nI, nI_lem1, m1_le, m1_lt, nI_ltm1, nI_bit, nI_shl, nI_xor, nI_or, n_rem, forall_eq, true_and, and_true, implies_true, true_implies, false_implies, not_true_eq_false, not_false_eq_true, Nat.zero_add, Nat.add_zero, ite_true, ite_false, if_true, if_false, true_or, or_true, false_or, or_false, and_self, and_false, false_and, Nat.reduceEqDiff, reduceIte]
      first
        | exact hQ σ1 hF hc
        | exact ⟨fun _ => hQ σ1 hF hc, fun z => absurd (Nat.le_refl _) z⟩
        | exact ⟨fun _ => hQ σ1 hF hc, fun z => by omega⟩
    | succ m ih =>
      intro j σ1 hj hF hc
      refine hX _ _ ?_
      simp (disch := omega) only [i_0, i_1, i_2, i_3, i_4, i_5, i_6, i_7, i_8, i_9, i_10, i_11, i_12, i_13, i_16, i_19, i_20, i_21, i_22, i_23, i_24, i_25, i_30, i_31, i_32, i_39, i_40, i_41, i_42, i_43, i_44, i_45, i_47, i_48, i_49, i_50, i_51, i_52, i_57, i_59, i_60, i_61, i_62, i_63, i_64, i_71, i_72, i_80, i_91, i_93, i_97, i_99, i_100, i_122, i_227, i_228, i_232, i_251, i_255, i_256, i_463, i_999, i_1000, i_1519, i_1600, i_9999, i_100000000, i_2147483639, i_2147483647, neg_nI1, nI_add, pk_mul, nI_remL, pk_sub, pk_div, nI_clamp, nI_leI, nI_ltI, nI_eq, vpT, nI_m1, m1_nI, nI_lem1, m1_le, m1_lt, nI_ltm1, nI_bit, nI_shl, nI_xor, nI_or, n_rem, forall_eq, true_and, and_true, implies_true, true_implies, false_implies, not_true_eq_false, not_false_eq_true, Nat.zero_add, Nat.add_zero, ite_true, ite_false, if_true, if_false, true_or, or_true, false_or, or_false, and_self, and_false, false_and, Nat.reduceEqDiff, reduceIte]
      have nx := ih (j + 1) (sB σ1 41 (16 + j) (fB σ1 41 j)) (by omega) (hF.trans (Fm.sB σ1 _ _ (by decide))) (hc.s (fun i => by
        rw [fB_sB]
        by_cases z : i = 16 + j
        · rw [if_pos ⟨rfl, z⟩, if_pos z]
          exact hc.lo (by omega)
        · rw [if_neg (fun q => z q.2), if_neg z]))
      first
        | exact nx
        | exact ⟨fun z => by omega, fun _ => nx⟩
  exact key 16 0 σ (by omega) (Fm.refl _ _ _ _) Cpy.z
theorem ml_st7 {σ : FS} {Q : FS → Prop} (hQ : ∀ σ', Fm [] [39, 40, 45, 46] [] σ σ' → (∀ a ∈ ([39, 40, 45, 46] : List Nat), Cpy (fA σ a) (fA σ a) (fA σ' a) 3 3) → mw_stands_76 (nI 0) σ' Q) : mw_stands_7 (nI 0) σ Q := by
  unfold mw_stands_7
  intro X hX
  have key : ∀ m j σ1, j + m = 3 → Fm [] [39, 40, 45, 46] [] σ σ1 → (∀ a ∈ ([39, 40, 45, 46] : List Nat), Cpy (fA σ a) (fA σ a) (fA σ1 a) 3 j) → X (nI j) σ1 := by
    intro m
    induction m with
    | zero =>
      intro j σ1 hj hF hc
      have hjN : j = 3 := by omega
      rw [hjN] at hc ⊢
      refine hX _ _ ?_
      simp (disch := omega) only [i_0, i_1, i_2, i_3, i_4, i_5, i_6, i_7, i_8, i_9, i_10, i_11, i_12, i_13, i_16, i_19, i_20, i_21, i_22, i_23, i_24, i_25, i_30, i_31, i_32, i_39, i_40, i_41, i_42, i_43, i_44, i_45, i_47, i_48, i_49, i_50, i_51, i_52, i_57, i_59, i_60, i_61, i_62, i_63, i_64, i_71, i_72, i_80, i_91, i_93, i_97, i_99, i_100, i_122, i_227, i_228, i_232, i_251, i_255, i_256, i_463, i_999, i_1000, i_1519, i_1600, i_9999, i_100000000, i_2147483639, i_2147483647, neg_nI1, nI_add, pk_mul, nI_remL, pk_sub, pk_div, nI_clamp, nI_leI, nI_ltI, nI_eq, vpT, nI_m1, m1_nI, nI_lem1, m1_le, m1_lt, nI_ltm1, nI_bit, nI_shl, nI_xor, nI_or, n_rem, forall_eq, true_and, and_true, implies_true, true_implies, false_implies, not_true_eq_false, not_false_eq_true, Nat.zero_add, Nat.add_zero, ite_true, ite_false, if_true, if_false, true_or, or_true, false_or, or_false, and_self, and_false, false_and, Nat.reduceEqDiff, reduceIte]
      first
        | exact hQ σ1 hF hc
        | exact ⟨fun _ => hQ σ1 hF hc, fun z => by omega⟩
    | succ m ih =>
      intro j σ1 hj hF hc
      refine hX _ _ ?_
      simp (disch := omega) only [i_0, i_1, i_2, i_3, i_4, i_5, i_6, i_7, i_8, i_9, i_10, i_11, i_12, i_13, i_16, i_19, i_20, i_21, i_22, i_23, i_24, i_25, i_30, i_31, i_32, i_39, i_40, i_41, i_42, i_43, i_44, i_45, i_47, i_48, i_49, i_50, i_51, i_52, i_57, i_59, i_60, i_61, i_62, i_63, i_64, i_71, i_72, i_80, i_91, i_93, i_97, i_99, i_100, i_122, i_227, i_228, i_232, i_251, i_255, i_256, i_463, i_999, i_1000, i_1519, i_1600, i_9999, i_100000000, i_2147483639, i_2147483647, neg_nI1, nI_add, pk_mul, nI_remL, pk_sub, pk_div, nI_clamp, nI_leI, nI_ltI, nI_eq, vpT, nI_m1, m1_nI, nI_lem1, m1_le, m1_lt, nI_ltm1, nI_bit, nI_shl, nI_xor, nI_or, n_rem, forall_eq, true_and, and_true, implies_true, true_implies, false_implies, not_true_eq_false, not_false_eq_true, Nat.zero_add, Nat.add_zero, ite_true, ite_false, if_true, if_false, true_or, or_true, false_or, or_false, and_self, and_false, false_and, Nat.reduceEqDiff, reduceIte]
      have nx := ih (j + 1) (sA (sA (sA (sA σ1 39 (3 + j) (fA σ1 39 j)) 40 (3 + j) (fA σ1 40 j)) 45 (3 + j) (fA σ1 45 j)) 46 (3 + j) (fA σ1 46 j)) (by omega) ((((hF.trans (Fm.sA _ _ _ (by decide))).trans (Fm.sA _ _ _ (by decide))).trans (Fm.sA _ _ _ (by decide))).trans (Fm.sA _ _ _ (by decide))) (fun a ha => (hc a ha).s (fun i => by
        have hlo : fA σ1 a j = fA σ a j := (hc a ha).lo (by omega)
        rw [fA_sA, fA_sA, fA_sA, fA_sA, ← hlo]
        have h4 : a = 39 ∨ a = 40 ∨ a = 45 ∨ a = 46 := by simpa using ha
        by_cases z : i = 3 + j
        · rcases h4 with rfl | rfl | rfl | rfl <;> simp [z]
        · rcases h4 with rfl | rfl | rfl | rfl <;> simp [z]))
      have e40 : fA (sA σ1 39 (3 + j) (fA σ1 39 j)) 40 j = fA σ1 40 j := by rw [fA_sA, if_neg (by omega)]
      have e45 : fA (sA (sA σ1 39 (3 + j) (fA σ1 39 j)) 40 (3 + j) (fA σ1 40 j)) 45 j = fA σ1 45 j := by rw [fA_sA, if_neg (by omega), fA_sA, if_neg (by omega)]
      have e46 : fA (sA (sA (sA σ1 39 (3 + j) (fA σ1 39 j)) 40 (3 + j) (fA σ1 40 j)) 45 (3 + j) (fA σ1 45 j)) 46 j = fA σ1 46 j := by rw [fA_sA, if_neg (by omega), fA_sA, if_neg (by omega), fA_sA, if_neg (by omega)]
      rw [e40, e45, e46]
      first
        | exact nx
        | exact ⟨fun z => by omega, fun _ => nx⟩
  exact key 3 0 σ (by omega) (Fm.refl _ _ _ _) (fun a _ => Cpy.z)

