/-! THE REFERENCE: an image comes on -/
def tl (t : Nat → Nat) (n : Nat) : List Nat := (List.range n).map t
def onF (P : Pl) : Nat := 2 + plC P * plR P
def perOK (P : Pl) (t : Nat → Nat) (p : Nat) : Bool := decide (t (onF P + 4 * p) < plC P ∧ t (onF P + 4 * p + 1) < plR P ∧ t (onF P + 4 * p + 2) ≤ 9 ∧ t (onF P + 4 * p + 3) < 2 ^ nT P) && (List.range p).all (fun o => decide (¬ (t (onF P + 4 * o) = t (onF P + 4 * p) ∧ t (onF P + 4 * o + 1) = t (onF P + 4 * p + 1))))
def onOK (P : Pl) (t : Nat → Nat) (n : Nat) : Prop := 0 < plC P ∧ n = onF P + 4 * nP P + 1 ∧ t (n - 1) = chk (tl t (n - 1)) ∧ 256 * t 0 + t 1 ≤ 999 ∧ (∀ k, k < plC P * plR P → t (2 + k) ≤ 99) ∧ ∀ p, p < nP P → perOK P t p = true
def onS (P : Pl) (t : Nat → Nat) : St := (256 * t 0 + t 1, (fun c => t (2 + (plC P * (c / 8) + c % 8))), (fun p => 8 * t (onF P + 4 * p + 1) + t (onF P + 4 * p)), (fun p => t (onF P + 4 * p + 2)), (fun p => t (onF P + 4 * p + 3)), [])
noncomputable def opOn (Z : Wd) : Int32 × Wd := @ite _ (onOK (wP Z) (wTp Z) (wTn Z)) (Classical.propDecidable _) (nI 1, putU (putS (putT Z (wTp Z) 0) (onS (wP Z) (wTp Z))) []) (nI 0, putRf (putT Z (wTp Z) 0) 5)
theorem opOn_t {Z : Wd} (h : onOK (wP Z) (wTp Z) (wTn Z)) : opOn Z = (nI 1, putU (putS (putT Z (wTp Z) 0) (onS (wP Z) (wTp Z))) []) := by unfold opOn; rw [if_pos h]
theorem opOn_f {Z : Wd} (h : ¬ onOK (wP Z) (wTp Z) (wTn Z)) : opOn Z = (nI 0, putRf (putT Z (wTp Z) 0) 5) := by unfold opOn; rw [if_neg h]
theorem tl_at {t : Nat → Nat} {n i b : Nat} (h : (tl t n)[i]? = some b) : i < n ∧ b = t i := by
  unfold tl at h
  have hi := (List.getElem?_eq_some_iff.mp h).1
  rw [List.length_map, List.length_range] at hi
  rw [List.getElem?_map, List.getElem?_range hi] at h
  cases h
  exact ⟨hi, rfl⟩
theorem ml_isPersonTold {σ : FS} {P : Pl} {t : Nat → Nat} {p : Nat} {Q : Int32 → FS → Prop} (hP : mP σ P) (ht : ∀ i, i < 1600 → fA σ 0 i = nI (t i)) (hb : ∀ i, t i < 256) (hp : p < nP P) (hQ : Q (nI (if perOK P t p = true then 1 else 0)) σ) : mw_isPersonTold (nI (onF P)) (nI (onF P + 4 * p)) σ Q := by
  have h7 := hP.1.2.2.2.2.1; have h5 := hP.1.2.2.2.1
  have hcr := cr_le hP.1
  have hf : onF P ≤ 51 := by unfold onF; omega
  have hC := hP.1.1; have hR := hP.1.2.1
  have b0 := hb (onF P + 4 * p); have b1 := hb (onF P + 4 * p + 1); have b2 := hb (onF P + 4 * p + 2); have b3 := hb (onF P + 4 * p + 3)
  have h32 : 2 ^ nT P ≤ 32 := Nat.le_trans (Nat.pow_le_pow_right (by decide) h5) (by decide)
  have no : perOK P t p = false → Q (nI 0) σ := fun h => by rw [h, if_neg (by decide)] at hQ; exact hQ
  unfold mw_isPersonTold
  simp (disch := omega) only [i_0, i_1, i_2, i_3, i_4, i_5, i_6, i_7, i_8, i_9, i_10, i_11, i_12, i_13, i_16, i_19, i_20, i_21, i_22, i_23, i_24, i_25, i_30, i_31, i_32, i_39, i_40, i_41, i_42, i_43, i_44, i_45, i_47, i_48, i_49, i_50, i_51, i_52, i_57, i_59, i_60, i_61, i_62, i_63, i_64, i_71, i_72, i_80, i_91, i_93, i_97, i_99, i_100, i_122, i_227, i_228, i_232, i_251, i_255, i_256, i_463, i_999, i_1000, i_1519, i_1600, i_9999, i_100000000, i_2147483639, i_2147483647, neg_nI1, nI_add, pk_mul, nI_remL, pk_sub, pk_div, nI_clamp, nI_leI, nI_ltI, nI_eq, vpT, nI_m1, m1_nI, nI_lem1, m1_le, m1_lt, nI_ltm1, nI_bit, nI_shl, nI_xor, nI_or, n_rem, forall_eq, true_and, and_true, implies_true, true_implies, false_implies, not_true_eq_false, not_false_eq_true, Nat.zero_add, Nat.add_zero, ite_true, ite_false, if_true, if_false, true_or, or_true, false_or, or_false, and_self, and_false, false_and, Nat.reduceEqDiff, reduceIte]
  rw [ht _ (by omega), ht _ (by omega)]
  refine ml_cellAt (Or.inl hP) (fun c c1 _ c3 => ?_) (fun c1 => ?_)
  · have h49 := c7_lt hP.1 c3
    rw [cellS_nI ⟨hC.2, hR.2⟩ (by omega) (by omega)] at c1
    split at c1
    · rename_i q
      simp (disch := omega) only [i_0, i_1, i_2, i_3, i_4, i_5, i_6, i_7, i_8, i_9, i_10, i_11, i_12, i_13, i_16, i_19, i_20, i_21, i_22, i_23, i_24, i_25, i_30, i_31, i_32, i_39, i_40, i_41, i_42, i_43, i_44, i_45, i_47, i_48, i_49, i_50, i_51, i_52, i_57, i_59, i_60, i_61, i_62, i_63, i_64, i_71, i_72, i_80, i_91, i_93, i_97, i_99, i_100, i_122, i_227, i_228, i_232, i_251, i_255, i_256, i_463, i_999, i_1000, i_1519, i_1600, i_9999, i_100000000, i_2147483639, i_2147483647, neg_nI1, nI_add, pk_mul, nI_remL, pk_sub, pk_div, nI_clamp, nI_leI, nI_ltI, nI_eq, vpT, nI_m1, m1_nI, nI_lem1, m1_le, m1_lt, nI_ltm1, nI_bit, nI_shl, nI_xor, nI_or, n_rem, forall_eq, true_and, and_true, implies_true, true_implies, false_implies, not_true_eq_false, not_false_eq_true, Nat.zero_add, Nat.add_zero, ite_true, ite_false, if_true, if_false, true_or, or_true, false_or, or_false, and_self, and_false, false_and, Nat.reduceEqDiff, reduceIte]
      rw [ht _ (by omega)]
      simp (disch := omega) only [i_0, i_1, i_2, i_3, i_4, i_5, i_6, i_7, i_8, i_9, i_10, i_11, i_12, i_13, i_16, i_19, i_20, i_21, i_22, i_23, i_24, i_25, i_30, i_31, i_32, i_39, i_40, i_41, i_42, i_43, i_44, i_45, i_47, i_48, i_49, i_50, i_51, i_52, i_57, i_59, i_60, i_61, i_62, i_63, i_64, i_71, i_72, i_80, i_91, i_93, i_97, i_99, i_100, i_122, i_227, i_228, i_232, i_251, i_255, i_256, i_463, i_999, i_1000, i_1519, i_1600, i_9999, i_100000000, i_2147483639, i_2147483647, neg_nI1, nI_add, pk_mul, nI_remL, pk_sub, pk_div, nI_clamp, nI_leI, nI_ltI, nI_eq, vpT, nI_m1, m1_nI, nI_lem1, m1_le, m1_lt, nI_ltm1, nI_bit, nI_shl, nI_xor, nI_or, n_rem, forall_eq, true_and, and_true, implies_true, true_implies, false_implies, not_true_eq_false, not_false_eq_true, Nat.zero_add, Nat.add_zero, ite_true, ite_false, if_true, if_false, true_or, or_true, false_or, or_false, and_self, and_false, false_and, Nat.reduceEqDiff, reduceIte]
      refine ⟨fun z => no (by unfold perOK; rw [decide_eq_false (by omega)]; rfl), fun z => ml_topicMany hP ?_⟩
      rw [ht _ (by omega)]
      simp (disch := omega) only [i_0, i_1, i_2, i_3, i_4, i_5, i_6, i_7, i_8, i_9, i_10, i_11, i_12, i_13, i_16, i_19, i_20, i_21, i_22, i_23, i_24, i_25, i_30, i_31, i_32, i_39, i_40, i_41, i_42, i_43, i_44, i_45, i_47, i_48, i_49, i_50, i_51, i_52, i_57, i_59, i_60, i_61, i_62, i_63, i_64, i_71, i_72, i_80, i_91, i_93, i_97, i_99, i_100, i_122, i_227, i_228, i_232, i_251, i_255, i_256, i_463, i_999, i_1000, i_1519, i_1600, i_9999, i_100000000, i_2147483639, i_2147483647, neg_nI1, nI_add, pk_mul, nI_remL, pk_sub, pk_div, nI_clamp, nI_leI, nI_ltI, nI_eq, vpT, nI_m1, m1_nI, nI_lem1, m1_le, m1_lt, nI_ltm1, nI_bit, nI_shl, nI_xor, nI_or, n_rem, forall_eq, true_and, and_true, implies_true, true_implies, false_implies, not_true_eq_false, not_false_eq_true, Nat.zero_add, Nat.add_zero, ite_true, ite_false, if_true, if_false, true_or, or_true, false_or, or_false, and_self, and_false, false_and, Nat.reduceEqDiff, reduceIte]
      refine ⟨fun z2 => ?_, fun z2 => no (by unfold perOK; rw [decide_eq_false (by omega)]; rfl)⟩
      unfold mw_isPersonTold_56
      intro X hX
      have key : ∀ j o, p - o = j → o ≤ p → (∀ o', o' < o → ¬ (t (onF P + 4 * o') = t (onF P + 4 * p) ∧ t (onF P + 4 * o' + 1) = t (onF P + 4 * p + 1))) → X (nI (onF P + 4 * p)) (nI (onF P + 4 * o)) σ := by
        intro j
        induction j with
        | zero =>
          intro o hj ho hall
          refine hX _ _ _ ⟨fun _ => ?_, fun z => absurd ((nI_leI (by omega) (by omega)).mpr (by omega)) z⟩
          have : perOK P t p = true := by
            unfold perOK
            rw [decide_eq_true (by omega), Bool.true_and, List.all_eq_true]
            intro o' ho'
            rw [decide_eq_true_iff]
            exact hall o' (by have := List.mem_range.mp ho'; omega)
          rw [if_pos this] at hQ
          exact hQ
        | succ j ih =>
          intro o hj ho hall
          have d0 := hb (onF P + 4 * o); have d1 := hb (onF P + 4 * o + 1)
          have next : ¬ (t (onF P + 4 * o) = t (onF P + 4 * p) ∧ t (onF P + 4 * o + 1) = t (onF P + 4 * p + 1)) → mw_isPersonTold_97 X (nI (onF P + 4 * p)) (nI (onF P + 4 * o)) σ Q := by
            intro hn
            unfold mw_isPersonTold_97
            have e : nI (onF P + 4 * o) + 4 = nI (onF P + 4 * (o + 1)) := by rw [i_4, nI_add]; congr 1
            rw [e]
            refine ih (o + 1) (by omega) (by omega) (fun o' ho' => ?_)
            rcases Nat.lt_or_ge o' o with w | w
            · exact hall o' w
            · have : o' = o := by omega
              subst this; exact hn
          refine hX _ _ _ ?_
          simp (disch := omega) only [i_0, i_1, i_2, i_3, i_4, i_5, i_6, i_7, i_8, i_9, i_10, i_11, i_12, i_13, i_16, i_19, i_20, i_21, i_22, i_23, i_24, i_25, i_30, i_31, i_32, i_39, i_40, i_41, i_42, i_43, i_44, i_45, i_47, i_48, i_49, i_50, i_51, i_52, i_57, i_59, i_60, i_61, i_62, i_63, i_64, i_71, i_72, i_80, i_91, i_93, i_97, i_99, i_100, i_122, i_227, i_228, i_232, i_251, i_255, i_256, i_463, i_999, i_1000, i_1519, i_1600, i_9999, i_100000000, i_2147483639, i_2147483647, neg_nI1, nI_add, pk_mul, nI_remL, pk_sub, pk_div, nI_clamp, nI_leI, nI_ltI, nI_eq, vpT, nI_m1, m1_nI, nI_lem1, m1_le, m1_lt, nI_ltm1, nI_bit, nI_shl, nI_xor, nI_or, n_rem, forall_eq, true_and, and_true, implies_true, true_implies, false_implies, not_true_eq_false, not_false_eq_true, Nat.zero_add, Nat.add_zero, ite_true, ite_false, if_true, if_false, true_or, or_true, false_or, or_false, and_self, and_false, false_and, Nat.reduceEqDiff, reduceIte]
          rw [ht _ (by omega), ht _ (by omega), ht _ (by omega), ht _ (by omega)]
          simp (disch := omega) only [i_0, i_1, i_2, i_3, i_4, i_5, i_6, i_7, i_8, i_9, i_10, i_11, i_12, i_13, i_16, i_19, i_20, i_21, i_22, i_23, i_24, i_25, i_30, i_31, i_32, i_39, i_40, i_41, i_42, i_43, i_44, i_45, i_47, i_48, i_49, i_50, i_51, i_52, i_57, i_59, i_60, i_61, i_62, i_63, i_64, i_71, i_72, i_80, i_91, i_93, i_97, i_99, i_100, i_122, i_227, i_228, i_232, i_251, i_255, i_256, i_463, i_999, i_1000, i_1519, i_1600, i_9999, i_100000000, i_2147483639, i_2147483647, neg_nI1, nI_add, pk_mul, nI_remL, pk_sub, pk_div, nI_clamp, nI_leI, nI_ltI, nI_eq, vpT, nI_m1, m1_nI, nI_lem1, m1_le, m1_lt, nI_ltm1, nI_bit, nI_shl, nI_xor, nI_or, n_rem, forall_eq, true_and, and_true, implies_true, true_implies, false_implies, not_true_eq_false, not_false_eq_true, Nat.zero_add, Nat.add_zero, ite_true, ite_false, if_true, if_false, true_or, or_true, false_or, or_false, and_self, and_false, false_and, Nat.reduceEqDiff, reduceIte]
          refine ⟨fun z => by omega, fun _ => ⟨fun z => next (fun w => z w.1), fun z => ⟨fun z3 => next (fun w => z3 w.2), fun z3 => no ?_⟩⟩⟩
          unfold perOK
          have : (List.range p).all (fun o => decide (¬ (t (onF P + 4 * o) = t (onF P + 4 * p) ∧ t (onF P + 4 * o + 1) = t (onF P + 4 * p + 1)))) = false := by
            rw [List.all_eq_false]
            exact ⟨o, List.mem_range.mpr (by omega), by rw [decide_eq_true_iff]; exact fun w => w ⟨z, z3⟩⟩
          rw [this, Bool.and_false]
      have := key _ 0 rfl (by omega) (fun o' ho' => by omega)
      simpa using this
    · cases c1
  · rw [cellS_nI ⟨hC.2, hR.2⟩ (by omega) (by omega)] at c1
    split at c1
    · cases c1
    · rename_i q
      simp (disch := omega) only [i_0, i_1, i_2, i_3, i_4, i_5, i_6, i_7, i_8, i_9, i_10, i_11, i_12, i_13, i_16, i_19, i_20, i_21, i_22, i_23, i_24, i_25, i_30, i_31, i_32, i_39, i_40, i_41, i_42, i_43, i_44, i_45, i_47, i_48, i_49, i_50, i_51, i_52, i_57, i_59, i_60, i_61, i_62, i_63, i_64, i_71, i_72, i_80, i_91, i_93, i_97, i_99, i_100, i_122, i_227, i_228, i_232, i_251, i_255, i_256, i_463, i_999, i_1000, i_1519, i_1600, i_9999, i_100000000, i_2147483639, i_2147483647, neg_nI1, nI_add, pk_mul, nI_remL, pk_sub, pk_div, nI_clamp, nI_leI, nI_ltI, nI_eq, vpT, nI_m1, m1_nI, nI_lem1, m1_le, m1_lt, nI_ltm1, nI_bit, nI_shl, nI_xor, nI_or, n_rem, forall_eq, true_and, and_true, implies_true, true_implies, false_implies, not_true_eq_false, not_false_eq_true, Nat.zero_add, Nat.add_zero, ite_true, ite_false, if_true, if_false, true_or, or_true, false_or, or_false, and_self, and_false, false_and, Nat.reduceEqDiff, reduceIte]
      exact no (by unfold perOK; rw [decide_eq_false (fun w => q ⟨w.1, w.2.1⟩)]; rfl)
theorem ml_isImage {σ : FS} {Z : Wd} {t : Nat → Nat} {n : Nat} {Q : Int32 → FS → Prop} (hZ : woOK Z) (hP : mPo σ (wP Z)) (ht : ∀ i, i < 1600 → fA σ 0 i = nI (t i)) (hb : ∀ i, t i < 256) (hn : n ≤ 1600) (hy : onOK (wP Z) t n → mP σ (wP Z) → Q (nI 1) σ) (hno : ¬ onOK (wP Z) t n → Q (nI 0) σ) : mw_isImage (nI n) σ Q := by
  have hnp := hZ.np
  unfold mw_isImage
  refine ml_cellMany0 hP.pc ?_
  rcases hP with hP | ⟨h0, h50, -⟩
  · have hC := hP.1.1; have hcr := cr_le hP.1
    have hf : onF (wP Z) ≤ 51 := by unfold onF; omega
    have hfe : 2 + plC (wP Z) * plR (wP Z) = onF (wP Z) := rfl
    rw [hP.2.1]
    simp (disch := omega) only [i_0, i_1, i_2, i_3, i_4, i_5, i_6, i_7, i_8, i_9, i_10, i_11, i_12, i_13, i_16, i_19, i_20, i_21, i_22, i_23, i_24, i_25, i_30, i_31, i_32, i_39, i_40, i_41, i_42, i_43, i_44, i_45, i_47, i_48, i_49, i_50, i_51, i_52, i_57, i_59, i_60, i_61, i_62, i_63, i_64, i_71, i_72, i_80, i_91, i_93, i_97, i_99, i_100, i_122, i_227, i_228, i_232, i_251, i_255, i_256, i_463, i_999, i_1000, i_1519, i_1600, i_9999, i_100000000, i_2147483639, i_2147483647, neg_nI1, nI_add, pk_mul, nI_remL, pk_sub, pk_div, nI_clamp, nI_leI, nI_ltI, nI_eq, vpT, nI_m1, m1_nI, nI_lem1, m1_le, m1_lt, nI_ltm1, nI_bit, nI_shl, nI_xor, nI_or, n_rem, forall_eq, true_and, and_true, implies_true, true_implies, false_implies, not_true_eq_false, not_false_eq_true, Nat.zero_add, Nat.add_zero, ite_true, ite_false, if_true, if_false, true_or, or_true, false_or, or_false, and_self, and_false, false_and, Nat.reduceEqDiff, reduceIte]
    refine ml_personMany hP ?_
    simp (disch := omega) only [i_0, i_1, i_2, i_3, i_4, i_5, i_6, i_7, i_8, i_9, i_10, i_11, i_12, i_13, i_16, i_19, i_20, i_21, i_22, i_23, i_24, i_25, i_30, i_31, i_32, i_39, i_40, i_41, i_42, i_43, i_44, i_45, i_47, i_48, i_49, i_50, i_51, i_52, i_57, i_59, i_60, i_61, i_62, i_63, i_64, i_71, i_72, i_80, i_91, i_93, i_97, i_99, i_100, i_122, i_227, i_228, i_232, i_251, i_255, i_256, i_463, i_999, i_1000, i_1519, i_1600, i_9999, i_100000000, i_2147483639, i_2147483647, neg_nI1, nI_add, pk_mul, nI_remL, pk_sub, pk_div, nI_clamp, nI_leI, nI_ltI, nI_eq, vpT, nI_m1, m1_nI, nI_lem1, m1_le, m1_lt, nI_ltm1, nI_bit, nI_shl, nI_xor, nI_or, n_rem, forall_eq, true_and, and_true, implies_true, true_implies, false_implies, not_true_eq_false, not_false_eq_true, Nat.zero_add, Nat.add_zero, ite_true, ite_false, if_true, if_false, true_or, or_true, false_or, or_false, and_self, and_false, false_and, Nat.reduceEqDiff, reduceIte]
    rw [hfe]
    refine ⟨fun z => hno (fun w => z w.2.1), fun z => ?_⟩
    simp (disch := omega) only [i_0, i_1, i_2, i_3, i_4, i_5, i_6, i_7, i_8, i_9, i_10, i_11, i_12, i_13, i_16, i_19, i_20, i_21, i_22, i_23, i_24, i_25, i_30, i_31, i_32, i_39, i_40, i_41, i_42, i_43, i_44, i_45, i_47, i_48, i_49, i_50, i_51, i_52, i_57, i_59, i_60, i_61, i_62, i_63, i_64, i_71, i_72, i_80, i_91, i_93, i_97, i_99, i_100, i_122, i_227, i_228, i_232, i_251, i_255, i_256, i_463, i_999, i_1000, i_1519, i_1600, i_9999, i_100000000, i_2147483639, i_2147483647, neg_nI1, nI_add, pk_mul, nI_remL, pk_sub, pk_div, nI_clamp, nI_leI, nI_ltI, nI_eq, vpT, nI_m1, m1_nI, nI_lem1, m1_le, m1_lt, nI_ltm1, nI_bit, nI_shl, nI_xor, nI_or, n_rem, forall_eq, true_and, and_true, implies_true, true_implies, false_implies, not_true_eq_false, not_false_eq_true, Nat.zero_add, Nat.add_zero, ite_true, ite_false, if_true, if_false, true_or, or_true, false_or, or_false, and_self, and_false, false_and, Nat.reduceEqDiff, reduceIte]
    rw [ht _ (by omega)]
    have hb0 := hb 0; have hb1 := hb 1; have hbn := hb (n - 1)
    refine ml_checked (l := tl t (n - 1)) (by unfold mok; decide) (by show _ ≤ 1600; omega) (by decide) (by unfold tl; simp) (fun b hb' => ?_) (fun i b hi => ?_) ?_
    · unfold tl at hb'
      obtain ⟨i, -, rfl⟩ := List.mem_map.mp hb'
      exact hb i
    · obtain ⟨g1, g2⟩ := tl_at hi
      rw [g2]; exact ht i (by omega)
    have hck := chk_lt (tl t (n - 1))
    simp (disch := omega) only [i_0, i_1, i_2, i_3, i_4, i_5, i_6, i_7, i_8, i_9, i_10, i_11, i_12, i_13, i_16, i_19, i_20, i_21, i_22, i_23, i_24, i_25, i_30, i_31, i_32, i_39, i_40, i_41, i_42, i_43, i_44, i_45, i_47, i_48, i_49, i_50, i_51, i_52, i_57, i_59, i_60, i_61, i_62, i_63, i_64, i_71, i_72, i_80, i_91, i_93, i_97, i_99, i_100, i_122, i_227, i_228, i_232, i_251, i_255, i_256, i_463, i_999, i_1000, i_1519, i_1600, i_9999, i_100000000, i_2147483639, i_2147483647, neg_nI1, nI_add, pk_mul, nI_remL, pk_sub, pk_div, nI_clamp, nI_leI, nI_ltI, nI_eq, vpT, nI_m1, m1_nI, nI_lem1, m1_le, m1_lt, nI_ltm1, nI_bit, nI_shl, nI_xor, nI_or, n_rem, forall_eq, true_and, and_true, implies_true, true_implies, false_implies, not_true_eq_false, not_false_eq_true, Nat.zero_add, Nat.add_zero, ite_true, ite_false, if_true, if_false, true_or, or_true, false_or, or_false, and_self, and_false, false_and, Nat.reduceEqDiff, reduceIte]
    refine ⟨fun z2 => hno (fun w => z2 w.2.2.1), fun z2 => ?_⟩
    rw [ht 0 (by omega), ht 1 (by omega)]
    simp (disch := omega) only [i_0, i_1, i_2, i_3, i_4, i_5, i_6, i_7, i_8, i_9, i_10, i_11, i_12, i_13, i_16, i_19, i_20, i_21, i_22, i_23, i_24, i_25, i_30, i_31, i_32, i_39, i_40, i_41, i_42, i_43, i_44, i_45, i_47, i_48, i_49, i_50, i_51, i_52, i_57, i_59, i_60, i_61, i_62, i_63, i_64, i_71, i_72, i_80, i_91, i_93, i_97, i_99, i_100, i_122, i_227, i_228, i_232, i_251, i_255, i_256, i_463, i_999, i_1000, i_1519, i_1600, i_9999, i_100000000, i_2147483639, i_2147483647, neg_nI1, nI_add, pk_mul, nI_remL, pk_sub, pk_div, nI_clamp, nI_leI, nI_ltI, nI_eq, vpT, nI_m1, m1_nI, nI_lem1, m1_le, m1_lt, nI_ltm1, nI_bit, nI_shl, nI_xor, nI_or, n_rem, forall_eq, true_and, and_true, implies_true, true_implies, false_implies, not_true_eq_false, not_false_eq_true, Nat.zero_add, Nat.add_zero, ite_true, ite_false, if_true, if_false, true_or, or_true, false_or, or_false, and_self, and_false, false_and, Nat.reduceEqDiff, reduceIte]
    refine ⟨fun z3 => ?_, fun z3 => hno (fun w => z3 w.2.2.2.1)⟩
    unfold mw_isImage_76
    intro X hX
    have key : ∀ j k, onF (wP Z) - k = j → 2 ≤ k → k ≤ onF (wP Z) → (∀ i, i + 2 < k → t (2 + i) ≤ 99) → X (nI n) (nI (onF (wP Z))) (nI k) σ := by
      intro j
      induction j with
      | zero =>
        intro k hj hk2 hk hall
        refine hX _ _ _ _ ⟨fun _ => ?_, fun w => absurd ((nI_leI (by omega) (by omega)).mpr (by omega)) w⟩
        unfold mw_isImage_102
        intro Y hY
        have per : ∀ j p, nP (wP Z) - p = j → p ≤ nP (wP Z) → (∀ o, o < p → perOK (wP Z) t o = true) → Y (nI n) (nI (onF (wP Z))) (nI (onF (wP Z) + 4 * p)) σ := by
          intro j
          induction j with
          | zero =>
            intro p hj2 hp hpo
            refine hY _ _ _ _ ?_
            simp (disch := omega) only [i_0, i_1, i_2, i_3, i_4, i_5, i_6, i_7, i_8, i_9, i_10, i_11, i_12, i_13, i_16, i_19, i_20, i_21, i_22, i_23, i_24, i_25, i_30, i_31, i_32, i_39, i_40, i_41, i_42, i_43, i_44, i_45, i_47, i_48, i_49, i_50, i_51, i_52, i_57, i_59, i_60, i_61, i_62, i_63, i_64, i_71, i_72, i_80, i_91, i_93, i_97, i_99, i_100, i_122, i_227, i_228, i_232, i_251, i_255, i_256, i_463, i_999, i_1000, i_1519, i_1600, i_9999, i_100000000, i_2147483639, i_2147483647, neg_nI1, nI_add, pk_mul, nI_remL, pk_sub, pk_div, nI_clamp, nI_leI, nI_ltI, nI_eq, vpT, nI_m1, m1_nI, nI_lem1, m1_le, m1_lt, nI_ltm1, nI_bit, nI_shl, nI_xor, nI_or, n_rem, forall_eq, true_and, and_true, implies_true, true_implies, false_implies, not_true_eq_false, not_false_eq_true, Nat.zero_add, Nat.add_zero, ite_true, ite_false, if_true, if_false, true_or, or_true, false_or, or_false, and_self, and_false, false_and, Nat.reduceEqDiff, reduceIte]
            refine ⟨fun _ => hy ⟨by omega, z, z2, z3, fun i hi => hall i (by omega), fun p' hp' => hpo p' (by omega)⟩ hP, fun w => by omega⟩
          | succ j ih =>
            intro p hj hp hpo
            refine hY _ _ _ _ ?_
            simp (disch := omega) only [i_0, i_1, i_2, i_3, i_4, i_5, i_6, i_7, i_8, i_9, i_10, i_11, i_12, i_13, i_16, i_19, i_20, i_21, i_22, i_23, i_24, i_25, i_30, i_31, i_32, i_39, i_40, i_41, i_42, i_43, i_44, i_45, i_47, i_48, i_49, i_50, i_51, i_52, i_57, i_59, i_60, i_61, i_62, i_63, i_64, i_71, i_72, i_80, i_91, i_93, i_97, i_99, i_100, i_122, i_227, i_228, i_232, i_251, i_255, i_256, i_463, i_999, i_1000, i_1519, i_1600, i_9999, i_100000000, i_2147483639, i_2147483647, neg_nI1, nI_add, pk_mul, nI_remL, pk_sub, pk_div, nI_clamp, nI_leI, nI_ltI, nI_eq, vpT, nI_m1, m1_nI, nI_lem1, m1_le, m1_lt, nI_ltm1, nI_bit, nI_shl, nI_xor, nI_or, n_rem, forall_eq, true_and, and_true, implies_true, true_implies, false_implies, not_true_eq_false, not_false_eq_true, Nat.zero_add, Nat.add_zero, ite_true, ite_false, if_true, if_false, true_or, or_true, false_or, or_false, and_self, and_false, false_and, Nat.reduceEqDiff, reduceIte]
            refine ⟨fun w => by omega, fun _ => ml_isPersonTold hP ht hb (by omega) ?_⟩
            by_cases q : perOK (wP Z) t p = true
            · rw [if_pos q]
              simp (disch := omega) only [i_0, i_1, i_2, i_3, i_4, i_5, i_6, i_7, i_8, i_9, i_10, i_11, i_12, i_13, i_16, i_19, i_20, i_21, i_22, i_23, i_24, i_25, i_30, i_31, i_32, i_39, i_40, i_41, i_42, i_43, i_44, i_45, i_47, i_48, i_49, i_50, i_51, i_52, i_57, i_59, i_60, i_61, i_62, i_63, i_64, i_71, i_72, i_80, i_91, i_93, i_97, i_99, i_100, i_122, i_227, i_228, i_232, i_251, i_255, i_256, i_463, i_999, i_1000, i_1519, i_1600, i_9999, i_100000000, i_2147483639, i_2147483647, neg_nI1, nI_add, pk_mul, nI_remL, pk_sub, pk_div, nI_clamp, nI_leI, nI_ltI, nI_eq, vpT, nI_m1, m1_nI, nI_lem1, m1_le, m1_lt, nI_ltm1, nI_bit, nI_shl, nI_xor, nI_or, n_rem, forall_eq, true_and, and_true, implies_true, true_implies, false_implies, not_true_eq_false, not_false_eq_true, Nat.zero_add, Nat.add_zero, ite_true, ite_false, if_true, if_false, true_or, or_true, false_or, or_false, and_self, and_false, false_and, Nat.reduceEqDiff, reduceIte]
              refine ih (p + 1) (by omega) (by omega) (fun o ho => ?_)
              rcases Nat.lt_or_ge o p with w | w
              · exact hpo o w
              · have : o = p := by omega
                subst this; exact q
            · rw [if_neg q]
              simp (disch := omega) only [i_0, i_1, i_2, i_3, i_4, i_5, i_6, i_7, i_8, i_9, i_10, i_11, i_12, i_13, i_16, i_19, i_20, i_21, i_22, i_23, i_24, i_25, i_30, i_31, i_32, i_39, i_40, i_41, i_42, i_43, i_44, i_45, i_47, i_48, i_49, i_50, i_51, i_52, i_57, i_59, i_60, i_61, i_62, i_63, i_64, i_71, i_72, i_80, i_91, i_93, i_97, i_99, i_100, i_122, i_227, i_228, i_232, i_251, i_255, i_256, i_463, i_999, i_1000, i_1519, i_1600, i_9999, i_100000000, i_2147483639, i_2147483647, neg_nI1, nI_add, pk_mul, nI_remL, pk_sub, pk_div, nI_clamp, nI_leI, nI_ltI, nI_eq, vpT, nI_m1, m1_nI, nI_lem1, m1_le, m1_lt, nI_ltm1, nI_bit, nI_shl, nI_xor, nI_or, n_rem, forall_eq, true_and, and_true, implies_true, true_implies, false_implies, not_true_eq_false, not_false_eq_true, Nat.zero_add, Nat.add_zero, ite_true, ite_false, if_true, if_false, true_or, or_true, false_or, or_false, and_self, and_false, false_and, Nat.reduceEqDiff, reduceIte]
              exact hno (fun w => q (w.2.2.2.2.2 p (by omega)))
        have := per _ 0 rfl (by omega) (fun o ho => by omega)
        simpa using this
      | succ j ih =>
        intro k hj hk2 hk hall
        have hbk := hb k
        refine hX _ _ _ _ ?_
        simp (disch := omega) only [i_0, i_1, i_2, i_3, i_4, i_5, i_6, i_7, i_8, i_9, i_10, i_11, i_12, i_13, i_16, i_19, i_20, i_21, i_22, i_23, i_24, i_25, i_30, i_31, i_32, i_39, i_40, i_41, i_42, i_43, i_44, i_45, i_47, i_48, i_49, i_50, i_51, i_52, i_57, i_59, i_60, i_61, i_62, i_63, i_64, i_71, i_72, i_80, i_91, i_93, i_97, i_99, i_100, i_122, i_227, i_228, i_232, i_251, i_255, i_256, i_463, i_999, i_1000, i_1519, i_1600, i_9999, i_100000000, i_2147483639, i_2147483647, neg_nI1, nI_add, pk_mul, nI_remL, pk_sub, pk_div, nI_clamp, nI_leI, nI_ltI, nI_eq, vpT, nI_m1, m1_nI, nI_lem1, m1_le, m1_lt, nI_ltm1, nI_bit, nI_shl, nI_xor, nI_or, n_rem, forall_eq, true_and, and_true, implies_true, true_implies, false_implies, not_true_eq_false, not_false_eq_true, Nat.zero_add, Nat.add_zero, ite_true, ite_false, if_true, if_false, true_or, or_true, false_or, or_false, and_self, and_false, false_and, Nat.reduceEqDiff, reduceIte]
        rw [ht _ (by omega)]
        simp (disch := omega) only [i_0, i_1, i_2, i_3, i_4, i_5, i_6, i_7, i_8, i_9, i_10, i_11, i_12, i_13, i_16, i_19, i_20, i_21, i_22, i_23, i_24, i_25, i_30, i_31, i_32, i_39, i_40, i_41, i_42, i_43, i_44, i_45, i_47, i_48, i_49, i_50, i_51, i_52, i_57, i_59, i_60, i_61, i_62, i_63, i_64, i_71, i_72, i_80, i_91, i_93, i_97, i_99, i_100, i_122, i_227, i_228, i_232, i_251, i_255, i_256, i_463, i_999, i_1000, i_1519, i_1600, i_9999, i_100000000, i_2147483639, i_2147483647, neg_nI1, nI_add, pk_mul, nI_remL, pk_sub, pk_div, nI_clamp, nI_leI, nI_ltI, nI_eq, vpT, nI_m1, m1_nI, nI_lem1, m1_le, m1_lt, nI_ltm1, nI_bit, nI_shl, nI_xor, nI_or, n_rem, forall_eq, true_and, and_true, implies_true, true_implies, false_implies, not_true_eq_false, not_false_eq_true, Nat.zero_add, Nat.add_zero, ite_true, ite_false, if_true, if_false, true_or, or_true, false_or, or_false, and_self, and_false, false_and, Nat.reduceEqDiff, reduceIte]
        refine ⟨fun w => by omega, fun _ => ⟨fun w => ih (k + 1) (by omega) (by omega) (by omega) (fun i hi => ?_), fun w => hno (fun q => w ?_)⟩⟩
        · rcases Nat.lt_or_ge (i + 2) k with v | v
          · exact hall i v
          · have : i + 2 = k := by omega
            rw [show 2 + i = k by omega]; exact w
        · have := q.2.2.2.2.1 (k - 2) (by unfold onF at hj; omega)
          rw [show 2 + (k - 2) = k by omega] at this
          exact this
    exact key _ 2 rfl (by omega) (by unfold onF; omega) (fun i hi => by omega)
  · rw [h50]
    simp (disch := omega) only [i_0, i_1, i_2, i_3, i_4, i_5, i_6, i_7, i_8, i_9, i_10, i_11, i_12, i_13, i_16, i_19, i_20, i_21, i_22, i_23, i_24, i_25, i_30, i_31, i_32, i_39, i_40, i_41, i_42, i_43, i_44, i_45, i_47, i_48, i_49, i_50, i_51, i_52, i_57, i_59, i_60, i_61, i_62, i_63, i_64, i_71, i_72, i_80, i_91, i_93, i_97, i_99, i_100, i_122, i_227, i_228, i_232, i_251, i_255, i_256, i_463, i_999, i_1000, i_1519, i_1600, i_9999, i_100000000, i_2147483639, i_2147483647, neg_nI1, nI_add, pk_mul, nI_remL, pk_sub, pk_div, nI_clamp, nI_leI, nI_ltI, nI_eq, vpT, nI_m1, m1_nI, nI_lem1, m1_le, m1_lt, nI_ltm1, nI_bit, nI_shl, nI_xor, nI_or, n_rem, forall_eq, true_and, and_true, implies_true, true_implies, false_implies, not_true_eq_false, not_false_eq_true, Nat.zero_add, Nat.add_zero, ite_true, ite_false, if_true, if_false, true_or, or_true, false_or, or_false, and_self, and_false, false_and, Nat.reduceEqDiff, reduceIte]
    refine hno (fun w => ?_)
    have := w.1
    rw [h0] at this
    exact absurd this (by decide)
theorem ordC_inv {P : Pl} (hP : plOK P) {c : Nat} (hc : isC P c) : plC P * (c / 8) + c % 8 < plC P * plR P ∧ ordC P (plC P * (c / 8) + c % 8) = c := by
  have h1 := hc.1; have h2 := hc.2
  have e1 : (plC P * (c / 8) + c % 8) % plC P = c % 8 := by rw [Nat.mul_add_mod]; exact Nat.mod_eq_of_lt h1
  have e2 : (plC P * (c / 8) + c % 8) / plC P = c / 8 := by
    rw [Nat.mul_add_div (by omega), Nat.div_eq_of_lt h1]; omega
  refine ⟨?_, ?_⟩
  · have : plC P * (c / 8 + 1) ≤ plC P * plR P := Nat.mul_le_mul_left _ h2
    rw [Nat.mul_add] at this; omega
  · unfold ordC; rw [e1, e2]; omega
theorem ordC_idx {P : Pl} (hP : plOK P) {k : Nat} (hk : k < plC P * plR P) : plC P * (ordC P k / 8) + ordC P k % 8 = k := by
  have h1 : k % plC P < plC P := Nat.mod_lt _ (by have := hP.1; omega)
  have hC := hP.1
  have e1 : ordC P k / 8 = k / plC P := by unfold ordC; omega
  have e2 : ordC P k % 8 = k % plC P := by unfold ordC; omega
  rw [e1, e2]; exact Nat.div_add_mod k (plC P)
theorem onS_ok {P : Pl} (hP : plOK P) {t : Nat → Nat} {n : Nat} (h : onOK P t n) : stOK P (onS P t) := by
  refine ⟨by show 256 * t 0 + t 1 ≤ 5000; have := h.2.2.2.1; omega, fun c hc => ?_, fun p hp => ?_, by show ([] : List (Nat × Nat × Nat × Nat)).length ≤ 40; simp⟩
  · exact h.2.2.2.2.1 _ (ordC_inv hP hc).1
  · have h1 := h.2.2.2.2.2 p hp
    unfold perOK at h1
    rw [Bool.and_eq_true, decide_eq_true_iff] at h1
    obtain ⟨⟨a1, a2, a3, a4⟩, -⟩ := h1
    refine ⟨?_, a3, a4⟩
    have hC := hP.1
    show isC P (8 * t (onF P + 4 * p + 1) + t (onF P + 4 * p))
    constructor <;> omega
theorem ma_on {σ : FS} {Z : Wd} {Q : Int32 → FS → Prop} (h : mAll σ Z) (hQ : ∀ σ', mAll σ' (opOn Z).2 → Q (opOn Z).1 σ') : mw_on σ Q := by
  have hT := h.1.2.2.2.1
  have hT2 := h.1.2.2.2.2.1
  have hnp := h.1.np
  have h1 := h.2.1.1
  have hA := h.taken
  unfold mw_on
  intro σ1 e1
  have e1 : σ1 = sI σ 0 1 (nI 0) := e1
  rw [← e1] at hA
  rw [h1]
  have tp : ∀ i, i < 1600 → fA σ1 0 i = nI (wTp Z i) := hA.2.1.2
  refine ml_isImage (Z := Z) h.1 hA.2.2.2.2.1 tp hT2 (by omega) (fun hy hP => ?_) (fun hno => ?_)
  · rw [opOn_t hy] at hQ
    have hC := hP.1.1; have hcr := cr_le hP.1
    have hf : onF (wP Z) ≤ 51 := by unfold onF; omega
    have hfe : 2 + plC (wP Z) * plR (wP Z) = onF (wP Z) := rfl
    have hb0 := hT2 0; have hb1 := hT2 1
    simp (disch := omega) only [i_0, i_1, i_2, i_3, i_4, i_5, i_6, i_7, i_8, i_9, i_10, i_11, i_12, i_13, i_16, i_19, i_20, i_21, i_22, i_23, i_24, i_25, i_30, i_31, i_32, i_39, i_40, i_41, i_42, i_43, i_44, i_45, i_47, i_48, i_49, i_50, i_51, i_52, i_57, i_59, i_60, i_61, i_62, i_63, i_64, i_71, i_72, i_80, i_91, i_93, i_97, i_99, i_100, i_122, i_227, i_228, i_232, i_251, i_255, i_256, i_463, i_999, i_1000, i_1519, i_1600, i_9999, i_100000000, i_2147483639, i_2147483647, neg_nI1, nI_add, pk_mul, nI_remL, pk_sub, pk_div, nI_clamp, nI_leI, nI_ltI, nI_eq, vpT, nI_m1, m1_nI, nI_lem1, m1_le, m1_lt, nI_ltm1, nI_bit, nI_shl, nI_xor, nI_or, n_rem, forall_eq, true_and, and_true, implies_true, true_implies, false_implies, not_true_eq_false, not_false_eq_true, Nat.zero_add, Nat.add_zero, ite_true, ite_false, if_true, if_false, true_or, or_true, false_or, or_false, and_self, and_false, false_and, Nat.reduceEqDiff, reduceIte]
    refine ml_cellMany hP ?_
    simp (disch := omega) only [i_0, i_1, i_2, i_3, i_4, i_5, i_6, i_7, i_8, i_9, i_10, i_11, i_12, i_13, i_16, i_19, i_20, i_21, i_22, i_23, i_24, i_25, i_30, i_31, i_32, i_39, i_40, i_41, i_42, i_43, i_44, i_45, i_47, i_48, i_49, i_50, i_51, i_52, i_57, i_59, i_60, i_61, i_62, i_63, i_64, i_71, i_72, i_80, i_91, i_93, i_97, i_99, i_100, i_122, i_227, i_228, i_232, i_251, i_255, i_256, i_463, i_999, i_1000, i_1519, i_1600, i_9999, i_100000000, i_2147483639, i_2147483647, neg_nI1, nI_add, pk_mul, nI_remL, pk_sub, pk_div, nI_clamp, nI_leI, nI_ltI, nI_eq, vpT, nI_m1, m1_nI, nI_lem1, m1_le, m1_lt, nI_ltm1, nI_bit, nI_shl, nI_xor, nI_or, n_rem, forall_eq, true_and, and_true, implies_true, true_implies, false_implies, not_true_eq_false, not_false_eq_true, Nat.zero_add, Nat.add_zero, ite_true, ite_false, if_true, if_false, true_or, or_true, false_or, or_false, and_self, and_false, false_and, Nat.reduceEqDiff, reduceIte]
    rw [tp 0 (by omega), tp 1 (by omega), hfe]
    simp (disch := omega) only [i_0, i_1, i_2, i_3, i_4, i_5, i_6, i_7, i_8, i_9, i_10, i_11, i_12, i_13, i_16, i_19, i_20, i_21, i_22, i_23, i_24, i_25, i_30, i_31, i_32, i_39, i_40, i_41, i_42, i_43, i_44, i_45, i_47, i_48, i_49, i_50, i_51, i_52, i_57, i_59, i_60, i_61, i_62, i_63, i_64, i_71, i_72, i_80, i_91, i_93, i_97, i_99, i_100, i_122, i_227, i_228, i_232, i_251, i_255, i_256, i_463, i_999, i_1000, i_1519, i_1600, i_9999, i_100000000, i_2147483639, i_2147483647, neg_nI1, nI_add, pk_mul, nI_remL, pk_sub, pk_div, nI_clamp, nI_leI, nI_ltI, nI_eq, vpT, nI_m1, m1_nI, nI_lem1, m1_le, m1_lt, nI_ltm1, nI_bit, nI_shl, nI_xor, nI_or, n_rem, forall_eq, true_and, and_true, implies_true, true_implies, false_implies, not_true_eq_false, not_false_eq_true, Nat.zero_add, Nat.add_zero, ite_true, ite_false, if_true, if_false, true_or, or_true, false_or, or_false, and_self, and_false, false_and, Nat.reduceEqDiff, reduceIte]
    unfold mw_on_62
    intro X hX
    have tp' : ∀ σ', Fm [76] [52] [] σ1 σ' → ∀ i, i < 1600 → fA σ' 0 i = nI (wTp Z i) := fun σ' hF i hi => by rw [hF.2.1 0 (by decide)]; exact tp i hi
    have pf : ∀ σ', Fm [76] [52] [] σ1 σ' → mP σ' (wP Z) := fun σ' hF => hP.fm hF (by decide) (by decide) (by decide)
    -- people
    have people : ∀ σ', Fm [76] [52] [] σ1 σ' → fA σ' 52 0 = nI (256 * wTp Z 0 + wTp Z 1) → (∀ c, isC (wP Z) c → fA σ' 52 (1 + c7 c) = nI (zH (onS (wP Z) (wTp Z)) c)) → mw_on_98 (nI (onF (wP Z))) (nI 0) σ' Q := by
      intro σ' hF' hd hh
      unfold mw_on_98
      intro Y hY
      have key : ∀ j p (σ2 : FS), nP (wP Z) - p = j → p ≤ nP (wP Z) → Fm [76] [52] [] σ1 σ2 → fA σ2 52 0 = nI (256 * wTp Z 0 + wTp Z 1) → (∀ c, isC (wP Z) c → fA σ2 52 (1 + c7 c) = nI (zH (onS (wP Z) (wTp Z)) c)) → (∀ q, q < p → fA σ2 52 (50 + 3 * q) = nI (c7 (zA (onS (wP Z) (wTp Z)) q)) ∧ fA σ2 52 (51 + 3 * q) = nI (zT (onS (wP Z) (wTp Z)) q) ∧ fA σ2 52 (52 + 3 * q) = nI (zK (onS (wP Z) (wTp Z)) q)) → Y (nI (onF (wP Z))) (nI p) σ2 := by
        intro j
        induction j with
        | zero =>
          intro p σ2 hj hp hF2 hd2 hh2 hp2
          have hpn : nP (wP Z) ≤ p := by omega
          refine hY _ _ _ (ml_personMany (pf σ2 hF2) ⟨fun _ => ?_, fun w => absurd ((nI_leI (by omega) (by omega)).mpr (by omega)) w⟩)
          simp (disch := omega) only [i_0, i_1, i_2, i_3, i_4, i_5, i_6, i_7, i_8, i_9, i_10, i_11, i_12, i_13, i_16, i_19, i_20, i_21, i_22, i_23, i_24, i_25, i_30, i_31, i_32, i_39, i_40, i_41, i_42, i_43, i_44, i_45, i_47, i_48, i_49, i_50, i_51, i_52, i_57, i_59, i_60, i_61, i_62, i_63, i_64, i_71, i_72, i_80, i_91, i_93, i_97, i_99, i_100, i_122, i_227, i_228, i_232, i_251, i_255, i_256, i_463, i_999, i_1000, i_1519, i_1600, i_9999, i_100000000, i_2147483639, i_2147483647, neg_nI1, nI_add, pk_mul, nI_remL, pk_sub, pk_div, nI_clamp, nI_leI, nI_ltI, nI_eq, vpT, nI_m1, m1_nI, nI_lem1, m1_le, m1_lt, nI_ltm1, nI_bit, nI_shl, nI_xor, nI_or, n_rem, forall_eq, true_and, and_true, implies_true, true_implies, false_implies, not_true_eq_false, not_false_eq_true, Nat.zero_add, Nat.add_zero, ite_true, ite_false, if_true, if_false, true_or, or_true, false_or, or_false, and_self, and_false, false_and, Nat.reduceEqDiff, reduceIte]
          have hF3 : Fm [76] [52] [] σ2 (sI (sA σ2 52 71 (nI 0)) 0 76 (nI 0)) := (Fm.sA σ2 _ _ (by decide)).trans (Fm.sI _ _ (by decide))
          have k52 : ∀ i, fA (sI (sA σ2 52 71 (nI 0)) 0 76 (nI 0)) 52 i = if i = 71 then nI 0 else fA σ2 52 i := fun i => by
            rw [fA_sI, fA_sA]
            by_cases w : i = 71
            · rw [if_pos ⟨rfl, w⟩, if_pos w]
            · rw [if_neg (fun q => w q.2), if_neg w]
          have k76 : fI (sI (sA σ2 52 71 (nI 0)) 0 76 (nI 0)) 0 76 = nI 0 := by rw [fI_sI]; simp
          have hF := hF2.trans hF3
          generalize sI (sA σ2 52 71 (nI 0)) 0 76 (nI 0) = σ3 at k52 k76 hF ⊢
          obtain ⟨g1, g2, g3, g4, g5, g6, g7, g8, g9, g10, g11, g12, g13, g14⟩ := hA
          obtain ⟨u1, w0, hw0, u2, u3⟩ := g9
          refine hQ σ3 ⟨?_, ⟨by rw [hF.1 1 (by decide)]; exact g2.1, by rw [hF.2.1 0 (by decide)]; exact g2.2⟩, by rw [hF.1 7 (by decide), hF.1 8 (by decide)]; exact g3, by rw [hF.2.1 9 (by decide)]; exact g4, g5.fm hF (by decide) (by decide) (by decide), ⟨onS_ok hP.1 hy, ?_, ?_, ?_⟩, ⟨?_, by show ([] : List (Nat × Nat × Nat × Nat)).length ≤ 40; simp, fun k r hr => ?_⟩, ⟨by rw [hF.1 71 (by decide)]; exact g8.1, by rw [hF.2.1 72 (by decide)]; exact g8.2⟩, ⟨k76, w0, hw0, by rw [hF.1 77 (by decide)]; exact u2, fun i s hs => ?_⟩, by rw [hF.2.2.2]; exact g10, ⟨by rw [hF.1 113 (by decide)]; exact g11.1, by rw [hF.2.1 112 (by decide)]; exact g11.2⟩, g12.eqv (hF.1 56 (by decide)), by rw [hF.1 57 (by decide), hF.1 60 (by decide)]; exact g13, g14.fm (fun a z => hF.2.1 a (by simp; omega))⟩
          · obtain ⟨v1, v2, v3, v4, v5, v6, v7, v8, v9, v10⟩ := g1
            exact ⟨v1, onS_ok hP.1 hy, hy.2.2.2.1, v4, v5, v6, v7, by show ([] : List St).length ≤ 20; simp, fun s hs => (by cases hs), v10⟩
          · rw [k52, if_neg (by omega)]; exact hd2
          · intro c hc
            have := c7_lt hP.1 hc
            rw [k52, if_neg (by omega)]; exact hh2 c hc
          · intro q hq
            have hq : q < nP (wP Z) := hq
            rw [k52, k52, k52, if_neg (by omega), if_neg (by omega), if_neg (by omega)]
            exact hp2 q (Nat.lt_of_lt_of_le hq hpn)
          · rw [k52, if_pos rfl]; rfl
          · have hr : ([] : List (Nat × Nat × Nat × Nat))[k]? = some r := hr
            simp at hr
          · have hs : ([] : List St)[i]? = some s := hs
            simp at hs
        | succ j ih =>
          intro p σ2 hj hp hF2 hd2 hh2 hp2
          have hpp : p < nP (wP Z) := by omega
          have hok := hy.2.2.2.2.2 p hpp
          unfold perOK at hok
          rw [Bool.and_eq_true, decide_eq_true_iff] at hok
          obtain ⟨⟨a1, a2, a3, a4⟩, -⟩ := hok
          have b0 := hT2 (onF (wP Z) + 4 * p); have b1 := hT2 (onF (wP Z) + 4 * p + 1); have b2 := hT2 (onF (wP Z) + 4 * p + 2); have b3 := hT2 (onF (wP Z) + 4 * p + 3)
          refine hY _ _ _ (ml_personMany (pf σ2 hF2) ⟨fun w => absurd ((nI_leI (by omega) (by omega)).mp w) (by omega), fun _ => ?_⟩)
          simp (disch := omega) only [i_0, i_1, i_2, i_3, i_4, i_5, i_6, i_7, i_8, i_9, i_10, i_11, i_12, i_13, i_16, i_19, i_20, i_21, i_22, i_23, i_24, i_25, i_30, i_31, i_32, i_39, i_40, i_41, i_42, i_43, i_44, i_45, i_47, i_48, i_49, i_50, i_51, i_52, i_57, i_59, i_60, i_61, i_62, i_63, i_64, i_71, i_72, i_80, i_91, i_93, i_97, i_99, i_100, i_122, i_227, i_228, i_232, i_251, i_255, i_256, i_463, i_999, i_1000, i_1519, i_1600, i_9999, i_100000000, i_2147483639, i_2147483647, neg_nI1, nI_add, pk_mul, nI_remL, pk_sub, pk_div, nI_clamp, nI_leI, nI_ltI, nI_eq, vpT, nI_m1, m1_nI, nI_lem1, m1_le, m1_lt, nI_ltm1, nI_bit, nI_shl, nI_xor, nI_or, n_rem, forall_eq, true_and, and_true, implies_true, true_implies, false_implies, not_true_eq_false, not_false_eq_true, Nat.zero_add, Nat.add_zero, ite_true, ite_false, if_true, if_false, true_or, or_true, false_or, or_false, and_self, and_false, false_and, Nat.reduceEqDiff, reduceIte]
          rw [tp' σ2 hF2 _ (by omega), tp' σ2 hF2 _ (by omega)]
          refine ml_cellAt (Or.inl (pf σ2 hF2)) (fun c c1 _ c3 => ?_) (fun c1 => ?_)
          · rw [cellS_nI ⟨hnp.2.2.1, hnp.2.2.2.1⟩ (by omega) (by omega), if_pos ⟨a1, a2⟩] at c1
            cases c1
            have h49 := c7_lt hP.1 c3
            have v2 : ∀ i v, fA (sA σ2 52 i v) 0 (onF (wP Z) + 4 * p + 2) = nI (wTp Z (onF (wP Z) + 4 * p + 2)) := fun i v => by rw [fA_sA, if_neg (by omega)]; exact tp' σ2 hF2 _ (by omega)
            have v3 : ∀ i v i' v', fA (sA (sA σ2 52 i v) 52 i' v') 0 (onF (wP Z) + 4 * p + 3) = nI (wTp Z (onF (wP Z) + 4 * p + 3)) := fun i v i' v' => by rw [fA_sA, if_neg (by omega), fA_sA, if_neg (by omega)]; exact tp' σ2 hF2 _ (by omega)
            rw [v2, v3]
            refine ih (p + 1) _ (by omega) (by omega) (hF2.trans ((Fm.sA σ2 _ _ (by decide)).trans ((Fm.sA _ _ _ (by decide)).trans (Fm.sA _ _ _ (by decide))))) ?_ ?_ ?_
            · rw [fA_sA, if_neg (by omega), fA_sA, if_neg (by omega), fA_sA, if_neg (by omega)]; exact hd2
            · intro c hc
              have := c7_lt hP.1 hc
              rw [fA_sA, if_neg (by omega), fA_sA, if_neg (by omega), fA_sA, if_neg (by omega)]; exact hh2 c hc
            · intro q hq
              by_cases w : q = p
              · subst w
                refine ⟨?_, ?_, ?_⟩
                · rw [fA_sA, if_neg (by omega), fA_sA, if_neg (by omega), fA_sA, if_pos ⟨rfl, rfl⟩]; rfl
                · rw [fA_sA, if_neg (by omega), fA_sA, if_pos ⟨rfl, rfl⟩]; rfl
                · rw [fA_sA, if_pos ⟨rfl, rfl⟩]; rfl
              · obtain ⟨x1, x2, x3⟩ := hp2 q (by omega)
                refine ⟨?_, ?_, ?_⟩
                · rw [fA_sA, if_neg (by omega), fA_sA, if_neg (by omega), fA_sA, if_neg (by omega)]; exact x1
                · rw [fA_sA, if_neg (by omega), fA_sA, if_neg (by omega), fA_sA, if_neg (by omega)]; exact x2
                · rw [fA_sA, if_neg (by omega), fA_sA, if_neg (by omega), fA_sA, if_neg (by omega)]; exact x3
          · rw [cellS_nI ⟨hnp.2.2.1, hnp.2.2.2.1⟩ (by omega) (by omega), if_pos ⟨a1, a2⟩] at c1
            cases c1
      exact key _ 0 σ' rfl (by omega) hF' hd hh (fun q hq => by omega)
    have cells : ∀ j k (σ2 : FS), plC (wP Z) * plR (wP Z) - k = j → k ≤ plC (wP Z) * plR (wP Z) → Fm [76] [52] [] σ1 σ2 → fA σ2 52 0 = nI (256 * wTp Z 0 + wTp Z 1) → (∀ i, i < k → fA σ2 52 (1 + c7 (ordC (wP Z) i)) = nI (wTp Z (2 + i))) → X (nI (onF (wP Z))) (nI k) σ2 := by
      intro j
      induction j with
      | zero =>
        intro k σ2 hj hk hF2 hd2 hh2
        refine hX _ _ _ (ml_cellMany (pf σ2 hF2) ⟨fun _ => people σ2 hF2 hd2 (fun c hc => ?_), fun w => absurd ((nI_leI (by omega) (by omega)).mpr (by omega)) w⟩)
        obtain ⟨q1, q2⟩ := ordC_inv hP.1 hc
        have := hh2 _ (show plC (wP Z) * (c / 8) + c % 8 < k by omega)
        rw [q2] at this
        exact this
      | succ j ih =>
        intro k σ2 hj hk hF2 hd2 hh2
        have hkk : k < plC (wP Z) * plR (wP Z) := by omega
        obtain ⟨hc, h7⟩ := ordC_ok hP.1 hkk
        have h49 := c7_lt hP.1 hc
        refine hX _ _ _ (ml_cellMany (pf σ2 hF2) ⟨fun w => absurd ((nI_leI (by omega) (by omega)).mp w) (by omega), fun _ => ml_cellOrder (pf σ2 hF2) hkk ?_⟩)
        simp (disch := omega) only [i_0, i_1, i_2, i_3, i_4, i_5, i_6, i_7, i_8, i_9, i_10, i_11, i_12, i_13, i_16, i_19, i_20, i_21, i_22, i_23, i_24, i_25, i_30, i_31, i_32, i_39, i_40, i_41, i_42, i_43, i_44, i_45, i_47, i_48, i_49, i_50, i_51, i_52, i_57, i_59, i_60, i_61, i_62, i_63, i_64, i_71, i_72, i_80, i_91, i_93, i_97, i_99, i_100, i_122, i_227, i_228, i_232, i_251, i_255, i_256, i_463, i_999, i_1000, i_1519, i_1600, i_9999, i_100000000, i_2147483639, i_2147483647, neg_nI1, nI_add, pk_mul, nI_remL, pk_sub, pk_div, nI_clamp, nI_leI, nI_ltI, nI_eq, vpT, nI_m1, m1_nI, nI_lem1, m1_le, m1_lt, nI_ltm1, nI_bit, nI_shl, nI_xor, nI_or, n_rem, forall_eq, true_and, and_true, implies_true, true_implies, false_implies, not_true_eq_false, not_false_eq_true, Nat.zero_add, Nat.add_zero, ite_true, ite_false, if_true, if_false, true_or, or_true, false_or, or_false, and_self, and_false, false_and, Nat.reduceEqDiff, reduceIte]
        rw [tp' σ2 hF2 _ (by omega)]
        refine ih (k + 1) _ (by omega) (by omega) (hF2.trans (Fm.sA σ2 _ _ (by decide))) ?_ (fun i hi => ?_)
        · rw [fA_sA, if_neg (by omega)]; exact hd2
        · rw [fA_sA]
          by_cases w : i = k
          · subst w; rw [if_pos ⟨rfl, rfl⟩]
          · obtain ⟨hc2, -⟩ := ordC_ok hP.1 (show i < plC (wP Z) * plR (wP Z) by omega)
            have m1 := isC_lt hP.1 hc; have m2 := isC_lt hP.1 hc2
            have hne : c7 (ordC (wP Z) i) ≠ c7 (ordC (wP Z) k) := fun q => by
              have q2 := c7_inj m2.1 m1.1 q
              have q3 := ordC_idx hP.1 hkk
              have q4 := ordC_idx hP.1 (show i < plC (wP Z) * plR (wP Z) by omega)
              rw [q2] at q4
              omega
            rw [if_neg (by omega)]; exact hh2 i (by omega)
    exact cells _ 0 _ rfl (by omega) (Fm.sA σ1 _ _ (by decide)) (by rw [fA_sA, if_pos ⟨rfl, rfl⟩]) (fun i hi => by omega)
  · rw [opOn_f hno] at hQ
    simp (disch := omega) only [i_0, i_1, i_2, i_3, i_4, i_5, i_6, i_7, i_8, i_9, i_10, i_11, i_12, i_13, i_16, i_19, i_20, i_21, i_22, i_23, i_24, i_25, i_30, i_31, i_32, i_39, i_40, i_41, i_42, i_43, i_44, i_45, i_47, i_48, i_49, i_50, i_51, i_52, i_57, i_59, i_60, i_61, i_62, i_63, i_64, i_71, i_72, i_80, i_91, i_93, i_97, i_99, i_100, i_122, i_227, i_228, i_232, i_251, i_255, i_256, i_463, i_999, i_1000, i_1519, i_1600, i_9999, i_100000000, i_2147483639, i_2147483647, neg_nI1, nI_add, pk_mul, nI_remL, pk_sub, pk_div, nI_clamp, nI_leI, nI_ltI, nI_eq, vpT, nI_m1, m1_nI, nI_lem1, m1_le, m1_lt, nI_ltm1, nI_bit, nI_shl, nI_xor, nI_or, n_rem, forall_eq, true_and, and_true, implies_true, true_implies, false_implies, not_true_eq_false, not_false_eq_true, Nat.zero_add, Nat.add_zero, ite_true, ite_false, if_true, if_false, true_or, or_true, false_or, or_false, and_self, and_false, false_and, Nat.reduceEqDiff, reduceIte]
    exact hQ _ (hA.rf (k := 5) (by decide) rfl)
