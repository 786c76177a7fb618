/-! THE REFERENCE: rises, letters -/
theorem zAs_D5 (P : Pl) (sil : Nat) (s : St) (p t : Nat) : zD (zAs P sil s p t) = zD s := zAs_D P sil s p t
theorem mq_rises {σ : FS} {Z : Wd} {x y hh : Int32} {Q : Int32 → FS → Prop} (h : mAll σ Z) (hQ : ∀ σ', mAll σ' Z → Q (opRises Z x y hh) σ') : mw_rises x y hh σ Q := by
  have hA := h
  obtain ⟨h1, h2, h3, h4, h5, h6, h7, h8, h9, h10, h11, h12, h13, h14⟩ := h
  unfold mw_rises
  unfold opRises at hQ
  refine ml_cellAt h5 (fun c a b d => ?_) (fun a => ?_)
  · have h49 := c7_lt b.1 d
    simp only [a] at hQ
    simp (disch := omega) only [i_0, i_1, i_2, i_3, i_4, i_5, i_6, i_7, i_8, i_9, i_10, i_11, i_12, i_13, i_16, i_19, i_20, i_21, i_22, i_23, i_24, i_25, i_30, i_31, i_32, i_39, i_40, i_41, i_42, i_43, i_44, i_45, i_47, i_48, i_49, i_50, i_51, i_52, i_57, i_59, i_60, i_61, i_62, i_63, i_64, i_71, i_72, i_80, i_91, i_93, i_97, i_99, i_100, i_122, i_227, i_228, i_232, i_251, i_255, i_256, i_463, i_999, i_1000, i_1519, i_1600, i_9999, i_100000000, i_2147483639, i_2147483647, neg_nI1, nI_add, pk_mul, nI_remL, pk_sub, pk_div, nI_clamp, nI_leI, nI_ltI, nI_eq, vpT, nI_m1, m1_nI, nI_lem1, m1_le, m1_lt, nI_ltm1, nI_bit, nI_shl, nI_xor, nI_or, n_rem, forall_eq, true_and, and_true, implies_true, true_implies, false_implies, not_true_eq_false, not_false_eq_true, Nat.zero_add, Nat.add_zero, ite_true, ite_false, if_true, if_false, true_or, or_true, false_or, or_false, and_self, and_false, false_and, Nat.reduceEqDiff, reduceIte]
    refine ml_think h13.2 (fun σ1 hT e52 e56 => ?_)
    have hS1 : mSd σ1 := by
      obtain ⟨sd, q1, q2⟩ := h12
      exact ⟨sd, q1, by rw [e56]; exact q2⟩
    have hd9 := h1.2.2.1
    unfold mw_rises_23
    intro X hX
    have key : ∀ j n (s : St) (σ2 : FS), min 60 (999 - zD (wS Z)) - n = j → n ≤ min 60 (999 - zD (wS Z)) → zD s = zD (wS Z) + n → Thk 0 σ σ2 → mN σ2 (wP Z) s → mSd σ2 → risS (wP Z) c hh j n s = risS (wP Z) c hh (min 60 (999 - zD (wS Z))) 0 (wS Z) → X hh (nI (c7 c)) (nI n) σ2 := by
      intro j
      induction j with
      | zero =>
        intro n s σ2 hj hn hz hT2 hN2 hS2 he
        have hP2 : mP σ2 (wP Z) := b.fm hT2.1 (by decide) (by decide) (by decide)
        have hend : ∀ v, v = risS (wP Z) c hh (min 60 (999 - zD (wS Z))) 0 (wS Z) → mw_takesBack σ2 (fun σ9 => Q v σ9) := by
          intro v hv
          subst hv
          exact ml_back hT2 hS2 h13.1 h13.2 (fun σ3 hF3 hS3 => hQ σ3 (hA.fm hF3 (by decide) (by decide) (by decide) hS3))
        have fin : mw_rises_62 hh (nI (c7 c)) (nI n) σ2 Q := by
          unfold mw_rises_62
          refine ml_heightOf hP2 hN2 d ?_
          simp only [risS] at he
          unfold mw_rises_77
          refine ⟨fun z => ?_, fun z => ?_⟩
          · rw [if_neg (Int32.not_le.mpr z)] at he
            have := hend _ he
            simp (disch := omega) only [i_0, i_1, i_2, i_3, i_4, i_5, i_6, i_7, i_8, i_9, i_10, i_11, i_12, i_13, i_16, i_19, i_20, i_21, i_22, i_23, i_24, i_25, i_30, i_31, i_32, i_39, i_40, i_41, i_42, i_43, i_44, i_45, i_47, i_48, i_49, i_50, i_51, i_52, i_57, i_59, i_60, i_61, i_62, i_63, i_64, i_71, i_72, i_80, i_91, i_93, i_97, i_99, i_100, i_122, i_227, i_228, i_232, i_251, i_255, i_256, i_463, i_999, i_1000, i_1519, i_1600, i_9999, i_100000000, i_2147483639, i_2147483647, neg_nI1, nI_add, pk_mul, nI_remL, pk_sub, pk_div, nI_clamp, nI_leI, nI_ltI, nI_eq, vpT, nI_m1, m1_nI, nI_lem1, m1_le, m1_lt, nI_ltm1, nI_bit, nI_shl, nI_xor, nI_or, n_rem, forall_eq, true_and, and_true, implies_true, true_implies, false_implies, not_true_eq_false, not_false_eq_true, Nat.zero_add, Nat.add_zero, ite_true, ite_false, if_true, if_false, true_or, or_true, false_or, or_false, and_self, and_false, false_and, Nat.reduceEqDiff, reduceIte]
            exact this
          · rw [if_pos (Int32.not_lt.mp z)] at he
            have := hend _ he
            simp (disch := omega) only [i_0, i_1, i_2, i_3, i_4, i_5, i_6, i_7, i_8, i_9, i_10, i_11, i_12, i_13, i_16, i_19, i_20, i_21, i_22, i_23, i_24, i_25, i_30, i_31, i_32, i_39, i_40, i_41, i_42, i_43, i_44, i_45, i_47, i_48, i_49, i_50, i_51, i_52, i_57, i_59, i_60, i_61, i_62, i_63, i_64, i_71, i_72, i_80, i_91, i_93, i_97, i_99, i_100, i_122, i_227, i_228, i_232, i_251, i_255, i_256, i_463, i_999, i_1000, i_1519, i_1600, i_9999, i_100000000, i_2147483639, i_2147483647, neg_nI1, nI_add, pk_mul, nI_remL, pk_sub, pk_div, nI_clamp, nI_leI, nI_ltI, nI_eq, vpT, nI_m1, m1_nI, nI_lem1, m1_le, m1_lt, nI_ltm1, nI_bit, nI_shl, nI_xor, nI_or, n_rem, forall_eq, true_and, and_true, implies_true, true_implies, false_implies, not_true_eq_false, not_false_eq_true, Nat.zero_add, Nat.add_zero, ite_true, ite_false, if_true, if_false, true_or, or_true, false_or, or_false, and_self, and_false, false_and, Nat.reduceEqDiff, reduceIte]
            exact this
        refine hX _ _ _ _ (ml_heightOf hP2 hN2 d ⟨fun _ => fin, fun z => ?_⟩)
        rw [i_60, i_999]
        simp (disch := omega) only [i_0, i_1, i_2, i_3, i_4, i_5, i_6, i_7, i_8, i_9, i_10, i_11, i_12, i_13, i_16, i_19, i_20, i_21, i_22, i_23, i_24, i_25, i_30, i_31, i_32, i_39, i_40, i_41, i_42, i_43, i_44, i_45, i_47, i_48, i_49, i_50, i_51, i_52, i_57, i_59, i_60, i_61, i_62, i_63, i_64, i_71, i_72, i_80, i_91, i_93, i_97, i_99, i_100, i_122, i_227, i_228, i_232, i_251, i_255, i_256, i_463, i_999, i_1000, i_1519, i_1600, i_9999, i_100000000, i_2147483639, i_2147483647, neg_nI1, nI_add, pk_mul, nI_remL, pk_sub, pk_div, nI_clamp, nI_leI, nI_ltI, nI_eq, vpT, nI_m1, m1_nI, nI_lem1, m1_le, m1_lt, nI_ltm1, nI_bit, nI_shl, nI_xor, nI_or, n_rem, forall_eq, true_and, and_true, implies_true, true_implies, false_implies, not_true_eq_false, not_false_eq_true, Nat.zero_add, Nat.add_zero, ite_true, ite_false, if_true, if_false, true_or, or_true, false_or, or_false, and_self, and_false, false_and, Nat.reduceEqDiff, reduceIte]
        rw [hN2.2.1]
        refine ⟨fun _ => fin, fun z2 => ?_⟩
        simp (disch := omega) only [i_0, i_1, i_2, i_3, i_4, i_5, i_6, i_7, i_8, i_9, i_10, i_11, i_12, i_13, i_16, i_19, i_20, i_21, i_22, i_23, i_24, i_25, i_30, i_31, i_32, i_39, i_40, i_41, i_42, i_43, i_44, i_45, i_47, i_48, i_49, i_50, i_51, i_52, i_57, i_59, i_60, i_61, i_62, i_63, i_64, i_71, i_72, i_80, i_91, i_93, i_97, i_99, i_100, i_122, i_227, i_228, i_232, i_251, i_255, i_256, i_463, i_999, i_1000, i_1519, i_1600, i_9999, i_100000000, i_2147483639, i_2147483647, neg_nI1, nI_add, pk_mul, nI_remL, pk_sub, pk_div, nI_clamp, nI_leI, nI_ltI, nI_eq, vpT, nI_m1, m1_nI, nI_lem1, m1_le, m1_lt, nI_ltm1, nI_bit, nI_shl, nI_xor, nI_or, n_rem, forall_eq, true_and, and_true, implies_true, true_implies, false_implies, not_true_eq_false, not_false_eq_true, Nat.zero_add, Nat.add_zero, ite_true, ite_false, if_true, if_false, true_or, or_true, false_or, or_false, and_self, and_false, false_and, Nat.reduceEqDiff, reduceIte]
        exact ⟨fun _ => fin, fun z3 => by omega⟩
      | succ j ih =>
        intro n s σ2 hj hn hz hT2 hN2 hS2 he
        have hP2 : mP σ2 (wP Z) := b.fm hT2.1 (by decide) (by decide) (by decide)
        have hend : ∀ v, v = risS (wP Z) c hh (min 60 (999 - zD (wS Z))) 0 (wS Z) → mw_takesBack σ2 (fun σ9 => Q v σ9) := by
          intro v hv
          subst hv
          exact ml_back hT2 hS2 h13.1 h13.2 (fun σ3 hF3 hS3 => hQ σ3 (hA.fm hF3 (by decide) (by decide) (by decide) hS3))
        simp only [risS] at he
        refine hX _ _ _ _ (ml_heightOf hP2 hN2 d ⟨fun z => ?_, fun z => ?_⟩)
        · rw [if_pos z] at he
          unfold mw_rises_62
          refine ml_heightOf hP2 hN2 d ?_
          unfold mw_rises_77
          refine ⟨fun z2 => absurd z (Int32.not_le.mpr z2), fun z2 => ?_⟩
          have := hend _ he
          simp (disch := omega) only [i_0, i_1, i_2, i_3, i_4, i_5, i_6, i_7, i_8, i_9, i_10, i_11, i_12, i_13, i_16, i_19, i_20, i_21, i_22, i_23, i_24, i_25, i_30, i_31, i_32, i_39, i_40, i_41, i_42, i_43, i_44, i_45, i_47, i_48, i_49, i_50, i_51, i_52, i_57, i_59, i_60, i_61, i_62, i_63, i_64, i_71, i_72, i_80, i_91, i_93, i_97, i_99, i_100, i_122, i_227, i_228, i_232, i_251, i_255, i_256, i_463, i_999, i_1000, i_1519, i_1600, i_9999, i_100000000, i_2147483639, i_2147483647, neg_nI1, nI_add, pk_mul, nI_remL, pk_sub, pk_div, nI_clamp, nI_leI, nI_ltI, nI_eq, vpT, nI_m1, m1_nI, nI_lem1, m1_le, m1_lt, nI_ltm1, nI_bit, nI_shl, nI_xor, nI_or, n_rem, forall_eq, true_and, and_true, implies_true, true_implies, false_implies, not_true_eq_false, not_false_eq_true, Nat.zero_add, Nat.add_zero, ite_true, ite_false, if_true, if_false, true_or, or_true, false_or, or_false, and_self, and_false, false_and, Nat.reduceEqDiff, reduceIte]
          exact this
        · rw [if_neg z] at he
          rw [i_60, i_999]
          simp (disch := omega) only [i_0, i_1, i_2, i_3, i_4, i_5, i_6, i_7, i_8, i_9, i_10, i_11, i_12, i_13, i_16, i_19, i_20, i_21, i_22, i_23, i_24, i_25, i_30, i_31, i_32, i_39, i_40, i_41, i_42, i_43, i_44, i_45, i_47, i_48, i_49, i_50, i_51, i_52, i_57, i_59, i_60, i_61, i_62, i_63, i_64, i_71, i_72, i_80, i_91, i_93, i_97, i_99, i_100, i_122, i_227, i_228, i_232, i_251, i_255, i_256, i_463, i_999, i_1000, i_1519, i_1600, i_9999, i_100000000, i_2147483639, i_2147483647, neg_nI1, nI_add, pk_mul, nI_remL, pk_sub, pk_div, nI_clamp, nI_leI, nI_ltI, nI_eq, vpT, nI_m1, m1_nI, nI_lem1, m1_le, m1_lt, nI_ltm1, nI_bit, nI_shl, nI_xor, nI_or, n_rem, forall_eq, true_and, and_true, implies_true, true_implies, false_implies, not_true_eq_false, not_false_eq_true, Nat.zero_add, Nat.add_zero, ite_true, ite_false, if_true, if_false, true_or, or_true, false_or, or_false, and_self, and_false, false_and, Nat.reduceEqDiff, reduceIte]
          rw [hN2.2.1]
          simp (disch := omega) only [i_0, i_1, i_2, i_3, i_4, i_5, i_6, i_7, i_8, i_9, i_10, i_11, i_12, i_13, i_16, i_19, i_20, i_21, i_22, i_23, i_24, i_25, i_30, i_31, i_32, i_39, i_40, i_41, i_42, i_43, i_44, i_45, i_47, i_48, i_49, i_50, i_51, i_52, i_57, i_59, i_60, i_61, i_62, i_63, i_64, i_71, i_72, i_80, i_91, i_93, i_97, i_99, i_100, i_122, i_227, i_228, i_232, i_251, i_255, i_256, i_463, i_999, i_1000, i_1519, i_1600, i_9999, i_100000000, i_2147483639, i_2147483647, neg_nI1, nI_add, pk_mul, nI_remL, pk_sub, pk_div, nI_clamp, nI_leI, nI_ltI, nI_eq, vpT, nI_m1, m1_nI, nI_lem1, m1_le, m1_lt, nI_ltm1, nI_bit, nI_shl, nI_xor, nI_or, n_rem, forall_eq, true_and, and_true, implies_true, true_implies, false_implies, not_true_eq_false, not_false_eq_true, Nat.zero_add, Nat.add_zero, ite_true, ite_false, if_true, if_false, true_or, or_true, false_or, or_false, and_self, and_false, false_and, Nat.reduceEqDiff, reduceIte]
          refine ⟨fun z2 => by omega, fun z2 => ⟨fun z3 => by omega, fun z3 => ?_⟩⟩
          refine ml_dayGoes (sil := 0) (th := 1) hP2 hN2 hS2 (by omega) hT2.2.1 (by decide) hT2.2.2.1 (by decide) (fun z => by omega) (fun σ3 hF3 hN3 hS3 _ => ?_)
          exact ih (n + 1) (zDy (wP Z) 0 s) σ3 (by omega) (by omega) (by rw [zDy_D]; omega) (hT2.step hF3 (hN3.2.2 (by decide))) hN3.1 hS3 he
    exact key _ 0 (wS Z) σ1 rfl (by omega) rfl hT (h6.eqv e52) hS1 rfl
  · simp only [a] at hQ
    simp (disch := omega) only [i_0, i_1, i_2, i_3, i_4, i_5, i_6, i_7, i_8, i_9, i_10, i_11, i_12, i_13, i_16, i_19, i_20, i_21, i_22, i_23, i_24, i_25, i_30, i_31, i_32, i_39, i_40, i_41, i_42, i_43, i_44, i_45, i_47, i_48, i_49, i_50, i_51, i_52, i_57, i_59, i_60, i_61, i_62, i_63, i_64, i_71, i_72, i_80, i_91, i_93, i_97, i_99, i_100, i_122, i_227, i_228, i_232, i_251, i_255, i_256, i_463, i_999, i_1000, i_1519, i_1600, i_9999, i_100000000, i_2147483639, i_2147483647, neg_nI1, nI_add, pk_mul, nI_remL, pk_sub, pk_div, nI_clamp, nI_leI, nI_ltI, nI_eq, vpT, nI_m1, m1_nI, nI_lem1, m1_le, m1_lt, nI_ltm1, nI_bit, nI_shl, nI_xor, nI_or, n_rem, forall_eq, true_and, and_true, implies_true, true_implies, false_implies, not_true_eq_false, not_false_eq_true, Nat.zero_add, Nat.add_zero, ite_true, ite_false, if_true, if_false, true_or, or_true, false_or, or_false, and_self, and_false, false_and, Nat.reduceEqDiff, reduceIte]
    exact hQ σ hA
/-! names as numbers -/
theorem enc_app (w : List Nat) (c : Nat) : enc (w ++ [c]) = 27 * enc w + (c - 96) := by unfold enc; rw [List.foldl_append]; rfl
theorem enc_take {w : List Nat} {j c : Nat} (hc : w[j]? = some c) : enc (w.take (j + 1)) = 27 * enc (w.take j) + (c - 96) := by
  obtain ⟨h1, h2⟩ := List.getElem?_eq_some_iff.mp hc
  rw [List.take_add_one, hc]
  exact enc_app _ _
theorem enc_lt {w : List Nat} (hw : nmOK w) : ∀ j, j ≤ w.length → enc (w.take j) < 27 ^ j ∧ (0 < j → 0 < enc (w.take j))
  | 0, _ => by rw [List.take_zero]; exact ⟨by decide, fun h => by omega⟩
  | j + 1, h => by
    obtain ⟨c, hc⟩ : ∃ c, w[j]? = some c := ⟨_, List.getElem?_eq_getElem (by omega)⟩
    obtain ⟨h1, h2⟩ := enc_lt hw j (by omega)
    have h3 := hw.2.2 c (List.mem_of_getElem? hc)
    rw [enc_take hc, Nat.pow_succ]
    omega
theorem enc_max {w : List Nat} (hw : nmOK w) (j : Nat) (hj : j ≤ w.length) : enc (w.take j) < 400000000 := by
  have h1 := (enc_lt hw j hj).1
  have h2 : (27 : Nat) ^ j ≤ 27 ^ 6 := Nat.pow_le_pow_right (by decide) (Nat.le_trans hj hw.2.1)
  omega
theorem lI_divN {a b : Nat} (ha : a < 1000000000000) (hb : b < 1000000000000) : lI (a : Int) / lI (b : Int) = lI ((a / b : Nat) : Int) := by
  rw [lI_div (by omega) (by omega) (by omega) (by omega)]
  rfl
theorem ml_letter {σ : FS} {w : List Nat} {j : Nat} {Q : Int32 → FS → Prop} (hw : nmOK w) (hj : j < 6) (hQ : Q (match w[j]? with | some c => nI (c - 96) | none => nI 0) σ) : mw_letter_67 (nI j) (lI (enc w)) (0 : Int32) (lI (enc w)) σ Q := by
  have h6 := hw.2.1
  unfold mw_letter_67
  intro X hX
  have key : ∀ i n, i + n = w.length → X (nI j) (lI (enc w)) (nI n) (lI (enc (w.take i))) σ := by
    intro i
    induction i with
    | zero =>
      intro n hn
      refine hX _ _ _ _ _ ?_
      rw [List.take_zero, show ((enc [] : Nat) : Int) = 0 from rfl]
      simp (disch := omega) only [i_0, i_1, i_2, i_3, i_4, i_5, i_6, i_7, i_8, i_9, i_10, i_11, i_12, i_13, i_16, i_19, i_20, i_21, i_22, i_23, i_24, i_25, i_30, i_31, i_32, i_39, i_40, i_41, i_42, i_43, i_44, i_45, i_47, i_48, i_49, i_50, i_51, i_52, i_57, i_59, i_60, i_61, i_62, i_63, i_64, i_71, i_72, i_80, i_91, i_93, i_97, i_99, i_100, i_122, i_227, i_228, i_232, i_251, i_255, i_256, i_463, i_999, i_1000, i_1519, i_1600, i_9999, i_100000000, i_2147483639, i_2147483647, neg_nI1, nI_add, pk_mul, nI_remL, pk_sub, pk_div, nI_clamp, nI_leI, nI_ltI, nI_eq, vpT, nI_m1, m1_nI, nI_lem1, m1_le, m1_lt, nI_ltm1, nI_bit, nI_shl, nI_xor, nI_or, n_rem, l_0, l_1, l_9, l_27, l_64, l_12345, l_1000000, l_1103515245, l_2147483648, l_1000000000000000, lI_neg, lI_add, lI_sub, lI_mul, lgc_le, lgc_ge, lgc_eq, lgc_lt, lgc_gt, nI_toL, lI_toI, lI_le, lI_lt, lI_eq]
      refine ⟨fun _ => ⟨fun z => ?_, fun z => ?_⟩, fun z => absurd (Int.le_refl 0) z⟩
      · obtain ⟨c, hc⟩ : ∃ c, w[j]? = some c := ⟨_, List.getElem?_eq_getElem (by omega)⟩
        have h3 := hw.2.2 c (List.mem_of_getElem? hc)
        rw [hc] at hQ
        rw [pk_sub (by omega)]
        unfold mw_letter_102
        intro Y hY
        have k2 : ∀ d q, q = j + d → q < w.length → Y (nI j) (lI (enc (w.take (q + 1)))) (nI q) σ := by
          intro d
          induction d with
          | zero =>
            intro q hq hq2
            have hq : q = j := by omega
            subst hq
            have hm := enc_max hw (q + 1) (by omega)
            refine hY _ _ _ _ ⟨fun _ => ?_, fun z => absurd ((nI_leI (by omega) (by omega)).mpr (Nat.le_refl _)) z⟩
            rw [l_27, show (27 : Int) = ((27 : Nat) : Int) from rfl, lI_divN (by omega) (by omega), lI_mul, lI_sub]
            have e : ((enc (w.take (q + 1)) : Nat) : Int) - ((enc (w.take (q + 1)) / 27 : Nat) : Int) * ((27 : Nat) : Int) = ((c - 96 : Nat) : Int) := by
              rw [enc_take hc]; omega
            rw [e, lI_toI (by omega) (by omega)]
            exact hQ
          | succ d ih =>
            intro q hq hq2
            have hm := enc_max hw (q + 1) (by omega)
            refine hY _ _ _ _ ⟨fun z => absurd ((nI_leI (by omega) (by omega)).mp z) (by omega), fun _ => ?_⟩
            obtain ⟨c2, hc2⟩ : ∃ c, w[q]? = some c := ⟨_, List.getElem?_eq_getElem (by omega)⟩
            have h32 := hw.2.2 c2 (List.mem_of_getElem? hc2)
            rw [l_27, show (27 : Int) = ((27 : Nat) : Int) from rfl, lI_divN (by omega) (by omega)]
            have e : enc (w.take (q + 1)) / 27 = enc (w.take q) := by rw [enc_take hc2]; omega
            obtain ⟨q', rfl⟩ : ∃ q', q = q' + 1 := ⟨q - 1, by omega⟩
            rw [e, pk_m1]
            exact ih q' (by omega) (by omega)
        have h5 := k2 (w.length - 1 - j) (n - 1) (by omega) (by omega)
        have : n - 1 + 1 = w.length := by omega
        rw [this, List.take_length] at h5
        exact h5
      · have : w[j]? = none := List.getElem?_eq_none_iff.mpr (by omega)
        rw [this] at hQ
        exact hQ
    | succ i ih =>
      intro n hn
      obtain ⟨c, hc⟩ : ∃ c, w[i]? = some c := ⟨_, List.getElem?_eq_getElem (by omega)⟩
      have h3 := hw.2.2 c (List.mem_of_getElem? hc)
      have hm := enc_max hw (i + 1) (by omega)
      have hp := (enc_lt hw (i + 1) (by omega)).2 (by omega)
      refine hX _ _ _ _ _ ?_
      simp (disch := omega) only [i_0, i_1, i_2, i_3, i_4, i_5, i_6, i_7, i_8, i_9, i_10, i_11, i_12, i_13, i_16, i_19, i_20, i_21, i_22, i_23, i_24, i_25, i_30, i_31, i_32, i_39, i_40, i_41, i_42, i_43, i_44, i_45, i_47, i_48, i_49, i_50, i_51, i_52, i_57, i_59, i_60, i_61, i_62, i_63, i_64, i_71, i_72, i_80, i_91, i_93, i_97, i_99, i_100, i_122, i_227, i_228, i_232, i_251, i_255, i_256, i_463, i_999, i_1000, i_1519, i_1600, i_9999, i_100000000, i_2147483639, i_2147483647, neg_nI1, nI_add, pk_mul, nI_remL, pk_sub, pk_div, nI_clamp, nI_leI, nI_ltI, nI_eq, vpT, nI_m1, m1_nI, nI_lem1, m1_le, m1_lt, nI_ltm1, nI_bit, nI_shl, nI_xor, nI_or, n_rem, l_0, l_27, lgc_le, lI_le]
      refine ⟨fun z => by omega, fun _ => ?_⟩
      rw [show (27 : Int) = ((27 : Nat) : Int) from rfl, lI_divN (by omega) (by omega)]
      have e : enc (w.take (i + 1)) / 27 = enc (w.take i) := by rw [enc_take hc]; omega
      rw [e]
      exact ih (n + 1) (by omega)
  have := key w.length 0 (by omega)
  rw [List.take_length] at this
  exact this
theorem mq_letter {σ : FS} {Z : Wd} {x y k : Int32} {Q : Int32 → FS → Prop} (h : mAll σ Z) (hQ : Q (opLetter Z x y k) σ) : mw_letter x y k σ Q := by
  obtain ⟨h1, h2, h3, h4, h5, h6, h7, h8, h9, h10, h11, h12, h13, h14⟩ := h
  have hnm := h1.2.2.2.2.2.2.2.2.2.2.2
  unfold mw_letter
  unfold opLetter at hQ
  have hnp := h1.np
  refine ml_isIn (n := 2) (by decide) (by decide) (fun a a1 a2 a3 => ?_) (fun a1 => ?_)
  · subst a3
    simp only [a1] at hQ
    simp (disch := omega) only [i_0, i_1, i_2, i_3, i_4, i_5, i_6, i_7, i_8, i_9, i_10, i_11, i_12, i_13, i_16, i_19, i_20, i_21, i_22, i_23, i_24, i_25, i_30, i_31, i_32, i_39, i_40, i_41, i_42, i_43, i_44, i_45, i_47, i_48, i_49, i_50, i_51, i_52, i_57, i_59, i_60, i_61, i_62, i_63, i_64, i_71, i_72, i_80, i_91, i_93, i_97, i_99, i_100, i_122, i_227, i_228, i_232, i_251, i_255, i_256, i_463, i_999, i_1000, i_1519, i_1600, i_9999, i_100000000, i_2147483639, i_2147483647, neg_nI1, nI_add, pk_mul, nI_remL, pk_sub, pk_div, nI_clamp, nI_leI, nI_ltI, nI_eq, vpT, nI_m1, m1_nI, nI_lem1, m1_le, m1_lt, nI_ltm1, nI_bit, nI_shl, nI_xor, nI_or, n_rem, forall_eq, true_and, and_true, implies_true, true_implies, false_implies, not_true_eq_false, not_false_eq_true, Nat.zero_add, Nat.add_zero, ite_true, ite_false, if_true, if_false, true_or, or_true, false_or, or_false, and_self, and_false, false_and, Nat.reduceEqDiff, reduceIte]
    have ha : a = 0 ∨ a = 1 := by omega
    have hcnt : fA σ 40 (3 + a) = nI (if a = 0 then nT (wP Z) else nP (wP Z)) := by
      rcases ha with rfl | rfl
      · exact h5.pc.2.1
      · exact h5.pc.2.2.1
    have hle : (if a = 0 then nT (wP Z) else nP (wP Z)) ≤ 7 := by split <;> omega
    rw [hcnt]
    refine ml_isIn (n := if a = 0 then nT (wP Z) else nP (wP Z)) (by decide) (nIm1_toInt (by omega)) (fun i b1 b2 b3 => ?_) (fun b1 => ?_)
    · subst b3
      simp (disch := omega) only [i_0, i_1, i_2, i_3, i_4, i_5, i_6, i_7, i_8, i_9, i_10, i_11, i_12, i_13, i_16, i_19, i_20, i_21, i_22, i_23, i_24, i_25, i_30, i_31, i_32, i_39, i_40, i_41, i_42, i_43, i_44, i_45, i_47, i_48, i_49, i_50, i_51, i_52, i_57, i_59, i_60, i_61, i_62, i_63, i_64, i_71, i_72, i_80, i_91, i_93, i_97, i_99, i_100, i_122, i_227, i_228, i_232, i_251, i_255, i_256, i_463, i_999, i_1000, i_1519, i_1600, i_9999, i_100000000, i_2147483639, i_2147483647, neg_nI1, nI_add, pk_mul, nI_remL, pk_sub, pk_div, nI_clamp, nI_leI, nI_ltI, nI_eq, vpT, nI_m1, m1_nI, nI_lem1, m1_le, m1_lt, nI_ltm1, nI_bit, nI_shl, nI_xor, nI_or, n_rem, forall_eq, true_and, and_true, implies_true, true_implies, false_implies, not_true_eq_false, not_false_eq_true, Nat.zero_add, Nat.add_zero, ite_true, ite_false, if_true, if_false, true_or, or_true, false_or, or_false, and_self, and_false, false_and, Nat.reduceEqDiff, reduceIte]
      refine ml_isIn (n := 6) (by decide) (by decide) (fun j c1 c2 c3 => ?_) (fun c1 => ?_)
      · subst c3
        simp only [b1, c1] at hQ
        simp (disch := omega) only [i_0, i_1, i_2, i_3, i_4, i_5, i_6, i_7, i_8, i_9, i_10, i_11, i_12, i_13, i_16, i_19, i_20, i_21, i_22, i_23, i_24, i_25, i_30, i_31, i_32, i_39, i_40, i_41, i_42, i_43, i_44, i_45, i_47, i_48, i_49, i_50, i_51, i_52, i_57, i_59, i_60, i_61, i_62, i_63, i_64, i_71, i_72, i_80, i_91, i_93, i_97, i_99, i_100, i_122, i_227, i_228, i_232, i_251, i_255, i_256, i_463, i_999, i_1000, i_1519, i_1600, i_9999, i_100000000, i_2147483639, i_2147483647, neg_nI1, nI_add, pk_mul, nI_remL, pk_sub, pk_div, nI_clamp, nI_leI, nI_ltI, nI_eq, vpT, nI_m1, m1_nI, nI_lem1, m1_le, m1_lt, nI_ltm1, nI_bit, nI_shl, nI_xor, nI_or, n_rem, forall_eq, true_and, and_true, implies_true, true_implies, false_implies, not_true_eq_false, not_false_eq_true, Nat.zero_add, Nat.add_zero, ite_true, ite_false, if_true, if_false, true_or, or_true, false_or, or_false, and_self, and_false, false_and, Nat.reduceEqDiff, reduceIte]
        have hP : mP σ (wP Z) := h5.p (by rcases ha with rfl | rfl <;> simp only [if_true, Nat.one_ne_zero, if_false] at b2 <;> omega)
        obtain ⟨w, hw⟩ : ∃ w, (if a = 0 then plT (wP Z) else plN (wP Z))[i]? = some w := by
          rcases ha with rfl | rfl
          · exact ⟨_, List.getElem?_eq_getElem b2⟩
          · exact ⟨_, List.getElem?_eq_getElem b2⟩
        simp only [hw] at hQ
        have hwn : nmOK w := by
          rcases ha with rfl | rfl
          · exact hnm w (Or.inl (List.mem_of_getElem? hw))
          · exact hnm w (Or.inr (List.mem_of_getElem? hw))
        have he : fB σ 41 (16 + 8 * a + i) = lI (enc w) := by
          rcases ha with rfl | rfl
          · exact hP.2.2.2.2.2.2.1 i w hw
          · exact hP.2.2.2.2.2.2.2 i w hw
        rw [he]
        exact ml_letter hwn c2 hQ
      · simp only [c1] at hQ
        simp (disch := omega) only [i_0, i_1, i_2, i_3, i_4, i_5, i_6, i_7, i_8, i_9, i_10, i_11, i_12, i_13, i_16, i_19, i_20, i_21, i_22, i_23, i_24, i_25, i_30, i_31, i_32, i_39, i_40, i_41, i_42, i_43, i_44, i_45, i_47, i_48, i_49, i_50, i_51, i_52, i_57, i_59, i_60, i_61, i_62, i_63, i_64, i_71, i_72, i_80, i_91, i_93, i_97, i_99, i_100, i_122, i_227, i_228, i_232, i_251, i_255, i_256, i_463, i_999, i_1000, i_1519, i_1600, i_9999, i_100000000, i_2147483639, i_2147483647, neg_nI1, nI_add, pk_mul, nI_remL, pk_sub, pk_div, nI_clamp, nI_leI, nI_ltI, nI_eq, vpT, nI_m1, m1_nI, nI_lem1, m1_le, m1_lt, nI_ltm1, nI_bit, nI_shl, nI_xor, nI_or, n_rem, forall_eq, true_and, and_true, implies_true, true_implies, false_implies, not_true_eq_false, not_false_eq_true, Nat.zero_add, Nat.add_zero, ite_true, ite_false, if_true, if_false, true_or, or_true, false_or, or_false, and_self, and_false, false_and, Nat.reduceEqDiff, reduceIte]
        exact hQ
    · simp (disch := omega) only [i_0, i_1, i_2, i_3, i_4, i_5, i_6, i_7, i_8, i_9, i_10, i_11, i_12, i_13, i_16, i_19, i_20, i_21, i_22, i_23, i_24, i_25, i_30, i_31, i_32, i_39, i_40, i_41, i_42, i_43, i_44, i_45, i_47, i_48, i_49, i_50, i_51, i_52, i_57, i_59, i_60, i_61, i_62, i_63, i_64, i_71, i_72, i_80, i_91, i_93, i_97, i_99, i_100, i_122, i_227, i_228, i_232, i_251, i_255, i_256, i_463, i_999, i_1000, i_1519, i_1600, i_9999, i_100000000, i_2147483639, i_2147483647, neg_nI1, nI_add, pk_mul, nI_remL, pk_sub, pk_div, nI_clamp, nI_leI, nI_ltI, nI_eq, vpT, nI_m1, m1_nI, nI_lem1, m1_le, m1_lt, nI_ltm1, nI_bit, nI_shl, nI_xor, nI_or, n_rem, forall_eq, true_and, and_true, implies_true, true_implies, false_implies, not_true_eq_false, not_false_eq_true, Nat.zero_add, Nat.add_zero, ite_true, ite_false, if_true, if_false, true_or, or_true, false_or, or_false, and_self, and_false, false_and, Nat.reduceEqDiff, reduceIte]
      rcases ix_cases k 6 with ⟨j, e1, -⟩ | ⟨e1, -⟩
      · simp only [b1, e1] at hQ; exact hQ
      · simp only [e1] at hQ; exact hQ
  · simp only [a1] at hQ
    simp (disch := omega) only [i_0, i_1, i_2, i_3, i_4, i_5, i_6, i_7, i_8, i_9, i_10, i_11, i_12, i_13, i_16, i_19, i_20, i_21, i_22, i_23, i_24, i_25, i_30, i_31, i_32, i_39, i_40, i_41, i_42, i_43, i_44, i_45, i_47, i_48, i_49, i_50, i_51, i_52, i_57, i_59, i_60, i_61, i_62, i_63, i_64, i_71, i_72, i_80, i_91, i_93, i_97, i_99, i_100, i_122, i_227, i_228, i_232, i_251, i_255, i_256, i_463, i_999, i_1000, i_1519, i_1600, i_9999, i_100000000, i_2147483639, i_2147483647, neg_nI1, nI_add, pk_mul, nI_remL, pk_sub, pk_div, nI_clamp, nI_leI, nI_ltI, nI_eq, vpT, nI_m1, m1_nI, nI_lem1, m1_le, m1_lt, nI_ltm1, nI_bit, nI_shl, nI_xor, nI_or, n_rem, forall_eq, true_and, and_true, implies_true, true_implies, false_implies, not_true_eq_false, not_false_eq_true, Nat.zero_add, Nat.add_zero, ite_true, ite_false, if_true, if_false, true_or, or_true, false_or, or_false, and_self, and_false, false_and, Nat.reduceEqDiff, reduceIte]
    exact hQ
