/-! THE REFERENCE: plan, keeps, rest -/
def planR (P : Pl) (s : St) (u hh st : Nat) : Option (List Nat) := match planF P s u hh st 0 s with
  | some l => some l
  | none => match planF P s u hh st 1 s with
    | some l => some l
    | none => match planF P s u hh st 2 s with
      | some l => some l
      | none => planF P s u hh st 3 s
def opPlan (Z : Wd) (x h y k : Int32) : Int32 := match cellN (wP Z) x, cellN (wP Z) y, ix h 100 with
  | some u, some st, some hh => match planR (wP Z) (wS Z) u hh st with
    | some l => if k = M1 then nI l.length else match ix k l.length with
      | some j => match l[j]? with
        | some i => nI (8 * (i / nT (wP Z)) + i % nT (wP Z))
        | none => M1
      | none => M1
    | none => M1
  | _, _, _ => M1
theorem ml_planMany {σ0 σ : FS} {P : Pl} {s : St} {u hh st : Nat} {Q : Int32 → FS → Prop} (hP : mP σ0 P) (hN : mN σ0 P s) (hT : Thx kPl aPl 0 σ0 σ) (e52 : fA σ 52 = fA σ0 52) (hS : mSd σ) (hq : mPq σ s u hh st) (hu : isC P u) (hst : isC P st) (hh9 : hh ≤ 99)
    (hs : ∀ σ' l, planR P s u hh st = some l → l.length < 4 → (∀ i ∈ l, i < nP P * nT P) → Thx kPl aPl 0 σ0 σ' → mSd σ' → (∀ (j : Nat) i, l[j]? = some i → fA σ' 62 j = nI i) → Q (nI l.length) σ') (h0 : ∀ σ', planR P s u hh st = none → Thx kPl aPl 0 σ0 σ' → mSd σ' → Q M1 σ') : mw_planMany σ Q := by
  have h09 := hN.1.2.1 st hst
  have hP1 := hT.p hP (by decide) (by decide)
  have hN1 : mN σ P s := hN.eqv e52
  unfold mw_planMany
  refine ml_isSo hP1 hN1 hq hu hst hh9 h09 ?_
  by_cases z0 : soS s u hh st s = true
  · rw [if_pos z0]
    simp (disch := omega) only [i_0, i_1, i_2, i_3, i_4, i_5, i_6, i_7, i_8, i_9, i_10, i_11, i_12, i_13, i_16, i_19, i_20, i_21, i_22, i_23, i_24, i_25, i_30, i_31, i_32, i_39, i_40, i_41, i_42, i_43, i_44, i_45, i_47, i_48, i_49, i_50, i_51, i_52, i_57, i_59, i_60, i_61, i_62, i_63, i_64, i_71, i_72, i_80, i_91, i_93, i_97, i_99, i_100, i_122, i_227, i_228, i_232, i_251, i_255, i_256, i_463, i_999, i_1000, i_1519, i_1600, i_9999, i_100000000, i_2147483639, i_2147483647, neg_nI1, nI_add, pk_mul, nI_remL, pk_sub, pk_div, nI_clamp, nI_leI, nI_ltI, nI_eq, vpT, nI_m1, m1_nI, nI_lem1, m1_le, m1_lt, nI_ltm1, nI_bit, nI_shl, nI_xor, nI_or, n_rem, forall_eq, true_and, and_true, implies_true, true_implies, false_implies, not_true_eq_false, not_false_eq_true, Nat.zero_add, Nat.add_zero, ite_true, ite_false, if_true, if_false, true_or, or_true, false_or, or_false, and_self, and_false, false_and, Nat.reduceEqDiff, reduceIte]
    have e : planR P s u hh st = some [] := by unfold planR planF; rw [if_pos z0]
    exact hs σ [] e (by decide) (fun i hi => by cases hi) hT hS (fun j i hj => by simp at hj)
  · rw [if_neg z0]
    simp (disch := omega) only [i_0, i_1, i_2, i_3, i_4, i_5, i_6, i_7, i_8, i_9, i_10, i_11, i_12, i_13, i_16, i_19, i_20, i_21, i_22, i_23, i_24, i_25, i_30, i_31, i_32, i_39, i_40, i_41, i_42, i_43, i_44, i_45, i_47, i_48, i_49, i_50, i_51, i_52, i_57, i_59, i_60, i_61, i_62, i_63, i_64, i_71, i_72, i_80, i_91, i_93, i_97, i_99, i_100, i_122, i_227, i_228, i_232, i_251, i_255, i_256, i_463, i_999, i_1000, i_1519, i_1600, i_9999, i_100000000, i_2147483639, i_2147483647, neg_nI1, nI_add, pk_mul, nI_remL, pk_sub, pk_div, nI_clamp, nI_leI, nI_ltI, nI_eq, vpT, nI_m1, m1_nI, nI_lem1, m1_le, m1_lt, nI_ltm1, nI_bit, nI_shl, nI_xor, nI_or, n_rem, forall_eq, true_and, and_true, implies_true, true_implies, false_implies, not_true_eq_false, not_false_eq_true, Nat.zero_add, Nat.add_zero, ite_true, ite_false, if_true, if_false, true_or, or_true, false_or, or_false, and_self, and_false, false_and, Nat.reduceEqDiff, reduceIte]
    have f0 : planF P s u hh st 0 s = none := by unfold planF; rw [if_neg z0]
    have p1 : planP P s u hh st 1 s = planF P s u hh st 1 s := planP_F 1 s (fun m hm => by
      have hm0 : m = 0 := by omega
      rw [hm0]; exact f0)
    refine ml_isOne hP hN hT e52 hS hq hu hst hh9 (fun σ1 i hi hT1 e1 hS1 r0 => ?_) (fun σ1 hi hT1 e1 hS1 hq1 => ?_)
    · simp (disch := omega) only [i_0, i_1, i_2, i_3, i_4, i_5, i_6, i_7, i_8, i_9, i_10, i_11, i_12, i_13, i_16, i_19, i_20, i_21, i_22, i_23, i_24, i_25, i_30, i_31, i_32, i_39, i_40, i_41, i_42, i_43, i_44, i_45, i_47, i_48, i_49, i_50, i_51, i_52, i_57, i_59, i_60, i_61, i_62, i_63, i_64, i_71, i_72, i_80, i_91, i_93, i_97, i_99, i_100, i_122, i_227, i_228, i_232, i_251, i_255, i_256, i_463, i_999, i_1000, i_1519, i_1600, i_9999, i_100000000, i_2147483639, i_2147483647, neg_nI1, nI_add, pk_mul, nI_remL, pk_sub, pk_div, nI_clamp, nI_leI, nI_ltI, nI_eq, vpT, nI_m1, m1_nI, nI_lem1, m1_le, m1_lt, nI_ltm1, nI_bit, nI_shl, nI_xor, nI_or, n_rem, forall_eq, true_and, and_true, implies_true, true_implies, false_implies, not_true_eq_false, not_false_eq_true, Nat.zero_add, Nat.add_zero, ite_true, ite_false, if_true, if_false, true_or, or_true, false_or, or_false, and_self, and_false, false_and, Nat.reduceEqDiff, reduceIte]
      have hl := planP_len 1 s _ hi
      rw [p1] at hi
      have e : planR P s u hh st = some [i] := by unfold planR; rw [f0, hi]
      refine hs σ1 [i] e (by simp) hl.2 hT1 hS1 (fun j i' hj => ?_)
      match j, hj with
      | 0, hj => cases hj; exact r0
      | j + 1, hj => simp at hj
    · simp (disch := omega) only [i_0, i_1, i_2, i_3, i_4, i_5, i_6, i_7, i_8, i_9, i_10, i_11, i_12, i_13, i_16, i_19, i_20, i_21, i_22, i_23, i_24, i_25, i_30, i_31, i_32, i_39, i_40, i_41, i_42, i_43, i_44, i_45, i_47, i_48, i_49, i_50, i_51, i_52, i_57, i_59, i_60, i_61, i_62, i_63, i_64, i_71, i_72, i_80, i_91, i_93, i_97, i_99, i_100, i_122, i_227, i_228, i_232, i_251, i_255, i_256, i_463, i_999, i_1000, i_1519, i_1600, i_9999, i_100000000, i_2147483639, i_2147483647, neg_nI1, nI_add, pk_mul, nI_remL, pk_sub, pk_div, nI_clamp, nI_leI, nI_ltI, nI_eq, vpT, nI_m1, m1_nI, nI_lem1, m1_le, m1_lt, nI_ltm1, nI_bit, nI_shl, nI_xor, nI_or, n_rem, forall_eq, true_and, and_true, implies_true, true_implies, false_implies, not_true_eq_false, not_false_eq_true, Nat.zero_add, Nat.add_zero, ite_true, ite_false, if_true, if_false, true_or, or_true, false_or, or_false, and_self, and_false, false_and, Nat.reduceEqDiff, reduceIte]
      have f1 : planF P s u hh st 1 s = none := by rw [← p1]; exact hi
      have p2 : planP P s u hh st 2 s = planF P s u hh st 2 s := planP_F 2 s (fun m hm => by
        have : m = 0 ∨ m = 1 := by omega
        rcases this with rfl | rfl
        · exact f0
        · exact f1)
      refine ml_isTwo hP hN hT1 e1 hS1 hq1 hu hst hh9 (fun σ2 l hi2 hT2 hS2 r2 => ?_) (fun σ2 hi2 hT2 e2 hS2 hq2 => ?_)
      · simp (disch := omega) only [i_0, i_1, i_2, i_3, i_4, i_5, i_6, i_7, i_8, i_9, i_10, i_11, i_12, i_13, i_16, i_19, i_20, i_21, i_22, i_23, i_24, i_25, i_30, i_31, i_32, i_39, i_40, i_41, i_42, i_43, i_44, i_45, i_47, i_48, i_49, i_50, i_51, i_52, i_57, i_59, i_60, i_61, i_62, i_63, i_64, i_71, i_72, i_80, i_91, i_93, i_97, i_99, i_100, i_122, i_227, i_228, i_232, i_251, i_255, i_256, i_463, i_999, i_1000, i_1519, i_1600, i_9999, i_100000000, i_2147483639, i_2147483647, neg_nI1, nI_add, pk_mul, nI_remL, pk_sub, pk_div, nI_clamp, nI_leI, nI_ltI, nI_eq, vpT, nI_m1, m1_nI, nI_lem1, m1_le, m1_lt, nI_ltm1, nI_bit, nI_shl, nI_xor, nI_or, n_rem, forall_eq, true_and, and_true, implies_true, true_implies, false_implies, not_true_eq_false, not_false_eq_true, Nat.zero_add, Nat.add_zero, ite_true, ite_false, if_true, if_false, true_or, or_true, false_or, or_false, and_self, and_false, false_and, Nat.reduceEqDiff, reduceIte]
        have hl := planP_len 2 s _ hi2
        rw [p2] at hi2
        have e : planR P s u hh st = some l := by unfold planR; rw [f0, f1, hi2]
        have := hs σ2 l e (by omega) hl.2 hT2 hS2 r2
        rw [hl.1] at this
        exact this
      · simp (disch := omega) only [i_0, i_1, i_2, i_3, i_4, i_5, i_6, i_7, i_8, i_9, i_10, i_11, i_12, i_13, i_16, i_19, i_20, i_21, i_22, i_23, i_24, i_25, i_30, i_31, i_32, i_39, i_40, i_41, i_42, i_43, i_44, i_45, i_47, i_48, i_49, i_50, i_51, i_52, i_57, i_59, i_60, i_61, i_62, i_63, i_64, i_71, i_72, i_80, i_91, i_93, i_97, i_99, i_100, i_122, i_227, i_228, i_232, i_251, i_255, i_256, i_463, i_999, i_1000, i_1519, i_1600, i_9999, i_100000000, i_2147483639, i_2147483647, neg_nI1, nI_add, pk_mul, nI_remL, pk_sub, pk_div, nI_clamp, nI_leI, nI_ltI, nI_eq, vpT, nI_m1, m1_nI, nI_lem1, m1_le, m1_lt, nI_ltm1, nI_bit, nI_shl, nI_xor, nI_or, n_rem, forall_eq, true_and, and_true, implies_true, true_implies, false_implies, not_true_eq_false, not_false_eq_true, Nat.zero_add, Nat.add_zero, ite_true, ite_false, if_true, if_false, true_or, or_true, false_or, or_false, and_self, and_false, false_and, Nat.reduceEqDiff, reduceIte]
        have f2 : planF P s u hh st 2 s = none := by rw [← p2]; exact hi2
        have p3 : planP P s u hh st 3 s = planF P s u hh st 3 s := planP_F 3 s (fun m hm => by
          have : m = 0 ∨ m = 1 ∨ m = 2 := by omega
          rcases this with rfl | rfl | rfl
          · exact f0
          · exact f1
          · exact f2)
        refine ml_anewX hT2 hS2 (fun σ3 hT3 e3 hS3 hF3 => ?_)
        refine ml_isThree hP hN hT3 e3 hS3 (hq2.fm hF3 (by decide)) hu hst hh9 (fun σ4 l hi4 hT4 hS4 r4 => ?_) (fun σ4 hi4 hT4 e4 hS4 hq4 => ?_)
        · simp (disch := omega) only [i_0, i_1, i_2, i_3, i_4, i_5, i_6, i_7, i_8, i_9, i_10, i_11, i_12, i_13, i_16, i_19, i_20, i_21, i_22, i_23, i_24, i_25, i_30, i_31, i_32, i_39, i_40, i_41, i_42, i_43, i_44, i_45, i_47, i_48, i_49, i_50, i_51, i_52, i_57, i_59, i_60, i_61, i_62, i_63, i_64, i_71, i_72, i_80, i_91, i_93, i_97, i_99, i_100, i_122, i_227, i_228, i_232, i_251, i_255, i_256, i_463, i_999, i_1000, i_1519, i_1600, i_9999, i_100000000, i_2147483639, i_2147483647, neg_nI1, nI_add, pk_mul, nI_remL, pk_sub, pk_div, nI_clamp, nI_leI, nI_ltI, nI_eq, vpT, nI_m1, m1_nI, nI_lem1, m1_le, m1_lt, nI_ltm1, nI_bit, nI_shl, nI_xor, nI_or, n_rem, forall_eq, true_and, and_true, implies_true, true_implies, false_implies, not_true_eq_false, not_false_eq_true, Nat.zero_add, Nat.add_zero, ite_true, ite_false, if_true, if_false, true_or, or_true, false_or, or_false, and_self, and_false, false_and, Nat.reduceEqDiff, reduceIte]
          have hl := planP_len 3 s _ hi4
          rw [p3] at hi4
          have e : planR P s u hh st = some l := by unfold planR; rw [f0, f1, f2, hi4]
          have := hs σ4 l e (by omega) hl.2 hT4 hS4 r4
          rw [hl.1] at this
          exact this
        · simp (disch := omega) only [i_0, i_1, i_2, i_3, i_4, i_5, i_6, i_7, i_8, i_9, i_10, i_11, i_12, i_13, i_16, i_19, i_20, i_21, i_22, i_23, i_24, i_25, i_30, i_31, i_32, i_39, i_40, i_41, i_42, i_43, i_44, i_45, i_47, i_48, i_49, i_50, i_51, i_52, i_57, i_59, i_60, i_61, i_62, i_63, i_64, i_71, i_72, i_80, i_91, i_93, i_97, i_99, i_100, i_122, i_227, i_228, i_232, i_251, i_255, i_256, i_463, i_999, i_1000, i_1519, i_1600, i_9999, i_100000000, i_2147483639, i_2147483647, neg_nI1, nI_add, pk_mul, nI_remL, pk_sub, pk_div, nI_clamp, nI_leI, nI_ltI, nI_eq, vpT, nI_m1, m1_nI, nI_lem1, m1_le, m1_lt, nI_ltm1, nI_bit, nI_shl, nI_xor, nI_or, n_rem, forall_eq, true_and, and_true, implies_true, true_implies, false_implies, not_true_eq_false, not_false_eq_true, Nat.zero_add, Nat.add_zero, ite_true, ite_false, if_true, if_false, true_or, or_true, false_or, or_false, and_self, and_false, false_and, Nat.reduceEqDiff, reduceIte]
          have f3 : planF P s u hh st 3 s = none := by rw [← p3]; exact hi4
          exact h0 σ4 (by unfold planR; rw [f0, f1, f2, f3]) hT4 hS4
theorem mq_plan {σ : FS} {Z : Wd} {x h y k : Int32} {Q : Int32 → FS → Prop} (hA : mAll σ Z) (hQ : ∀ σ', mAll σ' Z → Q (opPlan Z x h y k) σ') : mw_plan x h y k σ Q := by
  have hAA := hA
  obtain ⟨h1, h2, h3, h4, h5, h6, h7, h8, h9, h10, h11, h12, h13, h14⟩ := hA
  have hnp := h1.np
  unfold mw_plan
  unfold opPlan at hQ
  -- a field of the plan is set
  have setk : ∀ (σ1 : FS) (i : Nat) (v : Int32), mAll σ1 Z → i ∈ kPl → mAll (sI σ1 0 i v) Z := by
    intro σ1 i v hA1 hi
    refine hA1.fm (ks := kPl) (as := []) (bs := []) (Fm.sI σ1 v hi) (by decide) (by decide) (by decide) (hA1.2.2.2.2.2.2.2.2.2.2.2.1.eqv ?_)
    rw [fI_sI, if_neg (fun q => by rw [← q.2] at hi; revert hi; decide)]
  refine ml_cellNumbered h5 ⟨hnp.2.2.1, hnp.2.2.2.1⟩ (fun u a1 a2 a3 a4 _ => ?_) (fun a1 => ?_)
  · have h49 := c7_lt a2.1 a3
    intro σ1 e1
    subst e1
    have hA1 := setk σ 65 (nI (c7 u)) hAA (by decide)
    refine ml_cellNumbered hA1.2.2.2.2.1 ⟨hnp.2.2.1, hnp.2.2.2.1⟩ (fun st b1 b2 b3 b4 _ => ?_) (fun b1 => ?_)
    · have h492 := c7_lt a2.1 b3
      intro σ2 e2
      subst e2
      have hA2 := setk _ 67 (nI (c7 st)) hA1 (by decide)
      have e65 : fI (sI (sI σ 0 65 (nI (c7 u))) 0 67 (nI (c7 st))) 0 65 = nI (c7 u) := by rw [fI_sI, fI_sI]; simp
      have e67 : fI (sI (sI σ 0 65 (nI (c7 u))) 0 67 (nI (c7 st))) 0 67 = nI (c7 st) := by rw [fI_sI]; simp
      generalize sI (sI σ 0 65 (nI (c7 u))) 0 67 (nI (c7 st)) = σ2 at hA2 e65 e67 ⊢
      rw [e65, e67]
      simp (disch := omega) only [i_0, i_1, i_2, i_3, i_4, i_5, i_6, i_7, i_8, i_9, i_10, i_11, i_12, i_13, i_16, i_19, i_20, i_21, i_22, i_23, i_24, i_25, i_30, i_31, i_32, i_39, i_40, i_41, i_42, i_43, i_44, i_45, i_47, i_48, i_49, i_50, i_51, i_52, i_57, i_59, i_60, i_61, i_62, i_63, i_64, i_71, i_72, i_80, i_91, i_93, i_97, i_99, i_100, i_122, i_227, i_228, i_232, i_251, i_255, i_256, i_463, i_999, i_1000, i_1519, i_1600, i_9999, i_100000000, i_2147483639, i_2147483647, neg_nI1, nI_add, pk_mul, nI_remL, pk_sub, pk_div, nI_clamp, nI_leI, nI_ltI, nI_eq, vpT, nI_m1, m1_nI, nI_lem1, m1_le, m1_lt, nI_ltm1, nI_bit, nI_shl, nI_xor, nI_or, n_rem, forall_eq, true_and, and_true, implies_true, true_implies, false_implies, not_true_eq_false, not_false_eq_true, Nat.zero_add, Nat.add_zero, ite_true, ite_false, if_true, if_false, true_or, or_true, false_or, or_false, and_self, and_false, false_and, Nat.reduceEqDiff, reduceIte]
      refine ml_isIn (n := 100) (by decide) (by decide) (fun hh c1 c2 c3 => ?_) (fun c1 => ?_)
      · subst c3
        simp only [a1, b1, c1] at hQ
        simp (disch := omega) only [i_0, i_1, i_2, i_3, i_4, i_5, i_6, i_7, i_8, i_9, i_10, i_11, i_12, i_13, i_16, i_19, i_20, i_21, i_22, i_23, i_24, i_25, i_30, i_31, i_32, i_39, i_40, i_41, i_42, i_43, i_44, i_45, i_47, i_48, i_49, i_50, i_51, i_52, i_57, i_59, i_60, i_61, i_62, i_63, i_64, i_71, i_72, i_80, i_91, i_93, i_97, i_99, i_100, i_122, i_227, i_228, i_232, i_251, i_255, i_256, i_463, i_999, i_1000, i_1519, i_1600, i_9999, i_100000000, i_2147483639, i_2147483647, neg_nI1, nI_add, pk_mul, nI_remL, pk_sub, pk_div, nI_clamp, nI_leI, nI_ltI, nI_eq, vpT, nI_m1, m1_nI, nI_lem1, m1_le, m1_lt, nI_ltm1, nI_bit, nI_shl, nI_xor, nI_or, n_rem, forall_eq, true_and, and_true, implies_true, true_implies, false_implies, not_true_eq_false, not_false_eq_true, Nat.zero_add, Nat.add_zero, ite_true, ite_false, if_true, if_false, true_or, or_true, false_or, or_false, and_self, and_false, false_and, Nat.reduceEqDiff, reduceIte]
        refine ⟨fun zk => ?_, fun zk => ?_⟩
        · have hA3 := setk σ2 66 (nI hh) hA2 (by decide)
          have f65 : fI (sI σ2 0 66 (nI hh)) 0 65 = nI (c7 u) := by rw [fI_sI]; simpa using e65
          have f67 : fI (sI σ2 0 66 (nI hh)) 0 67 = nI (c7 st) := by rw [fI_sI]; simpa using e67
          have f66 : fI (sI σ2 0 66 (nI hh)) 0 66 = nI hh := by rw [fI_sI]; simp
          generalize sI σ2 0 66 (nI hh) = σ3 at hA3 f65 f67 f66 ⊢
          rw [f67]
          have hP3 : mP σ3 (wP Z) := hA3.2.2.2.2.1.p (Or.inl (by have := a2.1.1; omega))
          refine ml_heightOf hP3 hA3.2.2.2.2.2.1 b3 ?_
          have hA4 := setk σ3 68 (nI (zH (wS Z) st)) hA3 (by decide)
          have g65 : fI (sI σ3 0 68 (nI (zH (wS Z) st))) 0 65 = nI (c7 u) := by rw [fI_sI]; simpa using f65
          have g67 : fI (sI σ3 0 68 (nI (zH (wS Z) st))) 0 67 = nI (c7 st) := by rw [fI_sI]; simpa using f67
          have g66 : fI (sI σ3 0 68 (nI (zH (wS Z) st))) 0 66 = nI hh := by rw [fI_sI]; simpa using f66
          have g68 : fI (sI σ3 0 68 (nI (zH (wS Z) st))) 0 68 = nI (zH (wS Z) st) := by rw [fI_sI]; simp
          generalize sI σ3 0 68 (nI (zH (wS Z) st)) = σ4 at hA4 g65 g67 g66 g68 ⊢
          have hP4 : mP σ4 (wP Z) := hA4.2.2.2.2.1.p (Or.inl (by have := a2.1.1; omega))
          have hN4 := hA4.2.2.2.2.2.1
          have h134 := hA4.2.2.2.2.2.2.2.2.2.2.2.2.1
          refine ml_thinkX kPl aPl h134.2 (fun σ5 hT5 e52 hF5 => ?_)
          have hS5 : mSd σ5 := hA4.2.2.2.2.2.2.2.2.2.2.2.1.eqv (hF5.1 56 (by decide))
          have hq5 : mPq σ5 (wS Z) u hh st := mPq.fm ⟨g65, g66, g67, g68⟩ hF5 (by decide)
          refine ml_planMany hP4 hN4 hT5 e52 hS5 hq5 a3 b3 (by omega) (fun σ6 l hl hl4 hli hT6 hS6 r6 => ?_) (fun σ6 hl hT6 hS6 => ?_)
          · simp only [hl] at hQ
            refine ml_backX hT6 hS6 h134.1 h134.2 (fun σ7 hF7 hS7 ha7 hk7 => ?_)
            have hA7 := hA4.fm hF7 (by decide) (by decide) (by decide) hS7
            have hQ7 := hQ σ7 hA7
            refine ⟨fun z => ?_, fun z => ?_⟩
            · rw [if_pos z] at hQ7; exact hQ7
            · rw [if_neg z] at hQ7
              simp (disch := omega) only [i_0, i_1, i_2, i_3, i_4, i_5, i_6, i_7, i_8, i_9, i_10, i_11, i_12, i_13, i_16, i_19, i_20, i_21, i_22, i_23, i_24, i_25, i_30, i_31, i_32, i_39, i_40, i_41, i_42, i_43, i_44, i_45, i_47, i_48, i_49, i_50, i_51, i_52, i_57, i_59, i_60, i_61, i_62, i_63, i_64, i_71, i_72, i_80, i_91, i_93, i_97, i_99, i_100, i_122, i_227, i_228, i_232, i_251, i_255, i_256, i_463, i_999, i_1000, i_1519, i_1600, i_9999, i_100000000, i_2147483639, i_2147483647, neg_nI1, nI_add, pk_mul, nI_remL, pk_sub, pk_div, nI_clamp, nI_leI, nI_ltI, nI_eq, vpT, nI_m1, m1_nI, nI_lem1, m1_le, m1_lt, nI_ltm1, nI_bit, nI_shl, nI_xor, nI_or, n_rem, forall_eq, true_and, and_true, implies_true, true_implies, false_implies, not_true_eq_false, not_false_eq_true, Nat.zero_add, Nat.add_zero, ite_true, ite_false, if_true, if_false, true_or, or_true, false_or, or_false, and_self, and_false, false_and, Nat.reduceEqDiff, reduceIte]
              rcases ix_cases k l.length with ⟨j, e1, e2, e3⟩ | ⟨e1, e2⟩
              · subst e3
                obtain ⟨i, hi⟩ : ∃ i, l[j]? = some i := ⟨_, List.getElem?_eq_getElem e2⟩
                simp only [e1, hi] at hQ7
                have hii := hli i (List.mem_of_getElem? hi)
                have h35 := nn_le a2.1
                have hT0 : 0 < nT (wP Z) := by
                  rcases Nat.eq_zero_or_pos (nT (wP Z)) with q | q
                  · rw [q] at hii; omega
                  · exact q
                have hP7 : mP σ7 (wP Z) := hA7.2.2.2.2.1.p (Or.inl (by have := a2.1.1; omega))
                have r7 : fA σ7 62 j = nI i := by rw [ha7 62 (by decide)]; exact r6 j i hi
                simp (disch := omega) only [i_0, i_1, i_2, i_3, i_4, i_5, i_6, i_7, i_8, i_9, i_10, i_11, i_12, i_13, i_16, i_19, i_20, i_21, i_22, i_23, i_24, i_25, i_30, i_31, i_32, i_39, i_40, i_41, i_42, i_43, i_44, i_45, i_47, i_48, i_49, i_50, i_51, i_52, i_57, i_59, i_60, i_61, i_62, i_63, i_64, i_71, i_72, i_80, i_91, i_93, i_97, i_99, i_100, i_122, i_227, i_228, i_232, i_251, i_255, i_256, i_463, i_999, i_1000, i_1519, i_1600, i_9999, i_100000000, i_2147483639, i_2147483647, neg_nI1, nI_add, pk_mul, nI_remL, pk_sub, pk_div, nI_clamp, nI_leI, nI_ltI, nI_eq, vpT, nI_m1, m1_nI, nI_lem1, m1_le, m1_lt, nI_ltm1, nI_bit, nI_shl, nI_xor, nI_or, n_rem, forall_eq, true_and, and_true, implies_true, true_implies, false_implies, not_true_eq_false, not_false_eq_true, Nat.zero_add, Nat.add_zero, ite_true, ite_false, if_true, if_false, true_or, or_true, false_or, or_false, and_self, and_false, false_and, Nat.reduceEqDiff, reduceIte]
                refine ⟨fun q => by omega, fun _ => ml_topicMany hP7 ?_⟩
                simp (disch := omega) only [i_0, i_1, i_2, i_3, i_4, i_5, i_6, i_7, i_8, i_9, i_10, i_11, i_12, i_13, i_16, i_19, i_20, i_21, i_22, i_23, i_24, i_25, i_30, i_31, i_32, i_39, i_40, i_41, i_42, i_43, i_44, i_45, i_47, i_48, i_49, i_50, i_51, i_52, i_57, i_59, i_60, i_61, i_62, i_63, i_64, i_71, i_72, i_80, i_91, i_93, i_97, i_99, i_100, i_122, i_227, i_228, i_232, i_251, i_255, i_256, i_463, i_999, i_1000, i_1519, i_1600, i_9999, i_100000000, i_2147483639, i_2147483647, neg_nI1, nI_add, pk_mul, nI_remL, pk_sub, pk_div, nI_clamp, nI_leI, nI_ltI, nI_eq, vpT, nI_m1, m1_nI, nI_lem1, m1_le, m1_lt, nI_ltm1, nI_bit, nI_shl, nI_xor, nI_or, n_rem, forall_eq, true_and, and_true, implies_true, true_implies, false_implies, not_true_eq_false, not_false_eq_true, Nat.zero_add, Nat.add_zero, ite_true, ite_false, if_true, if_false, true_or, or_true, false_or, or_false, and_self, and_false, false_and, Nat.reduceEqDiff, reduceIte]
                refine ⟨by omega, ml_topicMany hP7 ?_⟩
                rw [r7]
                simp (disch := omega) only [i_0, i_1, i_2, i_3, i_4, i_5, i_6, i_7, i_8, i_9, i_10, i_11, i_12, i_13, i_16, i_19, i_20, i_21, i_22, i_23, i_24, i_25, i_30, i_31, i_32, i_39, i_40, i_41, i_42, i_43, i_44, i_45, i_47, i_48, i_49, i_50, i_51, i_52, i_57, i_59, i_60, i_61, i_62, i_63, i_64, i_71, i_72, i_80, i_91, i_93, i_97, i_99, i_100, i_122, i_227, i_228, i_232, i_251, i_255, i_256, i_463, i_999, i_1000, i_1519, i_1600, i_9999, i_100000000, i_2147483639, i_2147483647, neg_nI1, nI_add, pk_mul, nI_remL, pk_sub, pk_div, nI_clamp, nI_leI, nI_ltI, nI_eq, vpT, nI_m1, m1_nI, nI_lem1, m1_le, m1_lt, nI_ltm1, nI_bit, nI_shl, nI_xor, nI_or, n_rem, forall_eq, true_and, and_true, implies_true, true_implies, false_implies, not_true_eq_false, not_false_eq_true, Nat.zero_add, Nat.add_zero, ite_true, ite_false, if_true, if_false, true_or, or_true, false_or, or_false, and_self, and_false, false_and, Nat.reduceEqDiff, reduceIte]
                exact ⟨by omega, hQ7⟩
              · simp only [e1] at hQ7
                have hk0 : ¬ k.toInt < 0 := by
                  intro q
                  apply z
                  rw [Int32.le_iff_toInt_le, M1_toInt] at zk
                  exact Int32.toInt_inj.mp (by rw [M1_toInt]; omega)
                rw [Int32.le_iff_toInt_le, nI_toInt (by omega)]
                exact ⟨fun _ => hQ7, fun q => by omega⟩
          · simp only [hl] at hQ
            refine ml_backX hT6 hS6 h134.1 h134.2 (fun σ7 hF7 hS7 ha7 hk7 => ?_)
            have hA7 := hA4.fm hF7 (by decide) (by decide) (by decide) hS7
            simp (disch := omega) only [i_0, i_1, i_2, i_3, i_4, i_5, i_6, i_7, i_8, i_9, i_10, i_11, i_12, i_13, i_16, i_19, i_20, i_21, i_22, i_23, i_24, i_25, i_30, i_31, i_32, i_39, i_40, i_41, i_42, i_43, i_44, i_45, i_47, i_48, i_49, i_50, i_51, i_52, i_57, i_59, i_60, i_61, i_62, i_63, i_64, i_71, i_72, i_80, i_91, i_93, i_97, i_99, i_100, i_122, i_227, i_228, i_232, i_251, i_255, i_256, i_463, i_999, i_1000, i_1519, i_1600, i_9999, i_100000000, i_2147483639, i_2147483647, neg_nI1, nI_add, pk_mul, nI_remL, pk_sub, pk_div, nI_clamp, nI_leI, nI_ltI, nI_eq, vpT, nI_m1, m1_nI, nI_lem1, m1_le, m1_lt, nI_ltm1, nI_bit, nI_shl, nI_xor, nI_or, n_rem, forall_eq, true_and, and_true, implies_true, true_implies, false_implies, not_true_eq_false, not_false_eq_true, Nat.zero_add, Nat.add_zero, ite_true, ite_false, if_true, if_false, true_or, or_true, false_or, or_false, and_self, and_false, false_and, Nat.reduceEqDiff, reduceIte]
            exact ⟨fun _ => hQ σ7 hA7, fun _ => hQ σ7 hA7⟩
        · have hk0 : k.toInt < -1 := by
            rw [Int32.le_iff_toInt_le, M1_toInt] at zk; omega
          have hne : ¬ k = M1 := fun q => by rw [q, M1_toInt] at hk0; omega
          have hQ2 := hQ σ2 hA2
          cases hl : planR (wP Z) (wS Z) u hh st with
          | none => simp only [hl] at hQ2; exact hQ2
          | some l =>
            simp only [hl] at hQ2
            rw [if_neg hne] at hQ2
            have e : ix k l.length = none := by unfold ix; rw [if_neg (by omega)]
            simp only [e] at hQ2
            exact hQ2
      · simp only [a1, b1, c1] at hQ
        simp (disch := omega) only [i_0, i_1, i_2, i_3, i_4, i_5, i_6, i_7, i_8, i_9, i_10, i_11, i_12, i_13, i_16, i_19, i_20, i_21, i_22, i_23, i_24, i_25, i_30, i_31, i_32, i_39, i_40, i_41, i_42, i_43, i_44, i_45, i_47, i_48, i_49, i_50, i_51, i_52, i_57, i_59, i_60, i_61, i_62, i_63, i_64, i_71, i_72, i_80, i_91, i_93, i_97, i_99, i_100, i_122, i_227, i_228, i_232, i_251, i_255, i_256, i_463, i_999, i_1000, i_1519, i_1600, i_9999, i_100000000, i_2147483639, i_2147483647, neg_nI1, nI_add, pk_mul, nI_remL, pk_sub, pk_div, nI_clamp, nI_leI, nI_ltI, nI_eq, vpT, nI_m1, m1_nI, nI_lem1, m1_le, m1_lt, nI_ltm1, nI_bit, nI_shl, nI_xor, nI_or, n_rem, forall_eq, true_and, and_true, implies_true, true_implies, false_implies, not_true_eq_false, not_false_eq_true, Nat.zero_add, Nat.add_zero, ite_true, ite_false, if_true, if_false, true_or, or_true, false_or, or_false, and_self, and_false, false_and, Nat.reduceEqDiff, reduceIte]
        exact hQ σ2 hA2
    · intro σ2 e2
      subst e2
      have hA2 := setk _ 67 M1 hA1 (by decide)
      have e65 : fI (sI (sI σ 0 65 (nI (c7 u))) 0 67 M1) 0 65 = nI (c7 u) := by rw [fI_sI, fI_sI]; simp
      have e67 : fI (sI (sI σ 0 65 (nI (c7 u))) 0 67 M1) 0 67 = M1 := by rw [fI_sI]; simp
      rw [e65, e67]
      simp only [a1, b1] at hQ
      simp (disch := omega) only [i_0, i_1, i_2, i_3, i_4, i_5, i_6, i_7, i_8, i_9, i_10, i_11, i_12, i_13, i_16, i_19, i_20, i_21, i_22, i_23, i_24, i_25, i_30, i_31, i_32, i_39, i_40, i_41, i_42, i_43, i_44, i_45, i_47, i_48, i_49, i_50, i_51, i_52, i_57, i_59, i_60, i_61, i_62, i_63, i_64, i_71, i_72, i_80, i_91, i_93, i_97, i_99, i_100, i_122, i_227, i_228, i_232, i_251, i_255, i_256, i_463, i_999, i_1000, i_1519, i_1600, i_9999, i_100000000, i_2147483639, i_2147483647, neg_nI1, nI_add, pk_mul, nI_remL, pk_sub, pk_div, nI_clamp, nI_leI, nI_ltI, nI_eq, vpT, nI_m1, m1_nI, nI_lem1, m1_le, m1_lt, nI_ltm1, nI_bit, nI_shl, nI_xor, nI_or, n_rem, forall_eq, true_and, and_true, implies_true, true_implies, false_implies, not_true_eq_false, not_false_eq_true, Nat.zero_add, Nat.add_zero, ite_true, ite_false, if_true, if_false, true_or, or_true, false_or, or_false, and_self, and_false, false_and, Nat.reduceEqDiff, reduceIte]
      exact hQ _ hA2
  · intro σ1 e1
    subst e1
    have hA1 := setk σ 65 M1 hAA (by decide)
    simp only [a1] at hQ
    have go : ∀ v : Int32, (∀ σ6, σ6 = sI (sI σ 0 65 M1) 0 67 v → fI σ6 0 65 = M1 ∧ mAll σ6 Z) := by
      intro v σ6 e6
      subst e6
      exact ⟨by rw [fI_sI, fI_sI]; simp, setk _ 67 v hA1 (by decide)⟩
    refine ml_cellNumbered hA1.2.2.2.2.1 ⟨hnp.2.2.1, hnp.2.2.2.1⟩ (fun st b1 b2 b3 b4 _ => ?_) (fun b1 => ?_)
    · intro σ6 e6
      obtain ⟨g1, g2⟩ := go _ σ6 e6
      rw [g1]
      simp (disch := omega) only [i_0, i_1, i_2, i_3, i_4, i_5, i_6, i_7, i_8, i_9, i_10, i_11, i_12, i_13, i_16, i_19, i_20, i_21, i_22, i_23, i_24, i_25, i_30, i_31, i_32, i_39, i_40, i_41, i_42, i_43, i_44, i_45, i_47, i_48, i_49, i_50, i_51, i_52, i_57, i_59, i_60, i_61, i_62, i_63, i_64, i_71, i_72, i_80, i_91, i_93, i_97, i_99, i_100, i_122, i_227, i_228, i_232, i_251, i_255, i_256, i_463, i_999, i_1000, i_1519, i_1600, i_9999, i_100000000, i_2147483639, i_2147483647, neg_nI1, nI_add, pk_mul, nI_remL, pk_sub, pk_div, nI_clamp, nI_leI, nI_ltI, nI_eq, vpT, nI_m1, m1_nI, nI_lem1, m1_le, m1_lt, nI_ltm1, nI_bit, nI_shl, nI_xor, nI_or, n_rem, forall_eq, true_and, and_true, implies_true, true_implies, false_implies, not_true_eq_false, not_false_eq_true, Nat.zero_add, Nat.add_zero, ite_true, ite_false, if_true, if_false, true_or, or_true, false_or, or_false, and_self, and_false, false_and, Nat.reduceEqDiff, reduceIte]
      exact hQ _ g2
    · intro σ6 e6
      obtain ⟨g1, g2⟩ := go _ σ6 e6
      rw [g1]
      simp (disch := omega) only [i_0, i_1, i_2, i_3, i_4, i_5, i_6, i_7, i_8, i_9, i_10, i_11, i_12, i_13, i_16, i_19, i_20, i_21, i_22, i_23, i_24, i_25, i_30, i_31, i_32, i_39, i_40, i_41, i_42, i_43, i_44, i_45, i_47, i_48, i_49, i_50, i_51, i_52, i_57, i_59, i_60, i_61, i_62, i_63, i_64, i_71, i_72, i_80, i_91, i_93, i_97, i_99, i_100, i_122, i_227, i_228, i_232, i_251, i_255, i_256, i_463, i_999, i_1000, i_1519, i_1600, i_9999, i_100000000, i_2147483639, i_2147483647, neg_nI1, nI_add, pk_mul, nI_remL, pk_sub, pk_div, nI_clamp, nI_leI, nI_ltI, nI_eq, vpT, nI_m1, m1_nI, nI_lem1, m1_le, m1_lt, nI_ltm1, nI_bit, nI_shl, nI_xor, nI_or, n_rem, forall_eq, true_and, and_true, implies_true, true_implies, false_implies, not_true_eq_false, not_false_eq_true, Nat.zero_add, Nat.add_zero, ite_true, ite_false, if_true, if_false, true_or, or_true, false_or, or_false, and_self, and_false, false_and, Nat.reduceEqDiff, reduceIte]
      exact hQ _ g2
