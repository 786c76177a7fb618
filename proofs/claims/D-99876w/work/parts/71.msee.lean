/-! THE REFERENCE: what was seen, who was asked -/
def rowOK (P : Pl) (t : Nat → Nat) (k : Nat) : Bool := decide (t (4 * k) ≤ 30 ∧ t (4 * k + 1) < plC P ∧ t (4 * k + 2) < plR P ∧ t (4 * k + 3) ≤ 99)
def rowAt (t : Nat → Nat) (k : Nat) : Nat × Nat × Nat := (t (4 * k), 8 * t (4 * k + 2) + t (4 * k + 1), t (4 * k + 3))
def opSee (Z : Wd) : Int32 × Wd :=
  if 0 < wTn Z ∧ wTn Z % 4 = 0 ∧ wTn Z ≤ 64 ∧ (List.range (wTn Z / 4)).all (rowOK (wP Z) (wTp Z)) = true then (nI (wTn Z / 4), putR (putT Z (wTp Z) 0) ((List.range (wTn Z / 4)).map (rowAt (wTp Z))))
  else (M1, putRf (putT Z (wTp Z) 0) 1)
theorem mAll.taken {σ : FS} {Z : Wd} (h : mAll σ Z) : mAll (sI σ 0 1 (nI 0)) (putT Z (wTp Z) 0) := h.tape (Fm.sI σ _ (by decide)) (by omega) h.1.2.2.2.2.1 (by rw [fI_sI]; simp) h.2.1.2
theorem cellS_nI {P : Pl} (hP : plC P ≤ 7 ∧ plR P ≤ 7) {a b : Nat} (ha : a < 2 ^ 31) (hb : b < 2 ^ 31) : cellS P (nI a) (nI b) = if a < plC P ∧ b < plR P then some (8 * b + a) else none := by
  unfold cellS
  by_cases z : a < plC P
  · rw [ix_nI z (by omega)]
    by_cases z2 : b < plR P
    · rw [ix_nI z2 (by omega), if_pos ⟨z, z2⟩]
    · rw [nI_out hb (by omega), if_neg (fun q => z2 q.2)]
  · rw [nI_out ha (by omega), if_neg (fun q => z q.1)]
theorem ma_see {σ : FS} {Z : Wd} {Q : Int32 → FS → Prop} (h : mAll σ Z) (hQ : ∀ σ', mAll σ' (opSee Z).2 → Q (opSee Z).1 σ') : mw_see σ Q := by
  have hT := h.1.2.2.2.1
  have hT2 := h.1.2.2.2.2.1
  have hnp := h.1.np
  have h1 := h.2.1.1
  have hA := h.taken
  unfold mw_see
  intro σ1 e1
  have e1 : σ1 = sI σ 0 1 (nI 0) := e1
  rw [← e1] at hA
  rw [h1]
  have bad : ∀ (σ' : FS), mAll σ' (putT Z (wTp Z) 0) → ¬ (0 < wTn Z ∧ wTn Z % 4 = 0 ∧ wTn Z ≤ 64 ∧ (List.range (wTn Z / 4)).all (rowOK (wP Z) (wTp Z)) = true) → mw_see_105 (nI (wTn Z)) (nI 0) σ' Q := by
    intro σ' hA' hc
    unfold mw_see_105
    simp (disch := omega) only [i_0, i_1, i_2, i_3, i_4, i_5, i_6, i_7, i_8, i_9, i_10, i_11, i_12, i_13, i_16, i_19, i_20, i_21, i_22, i_23, i_24, i_25, i_30, i_31, i_32, i_39, i_40, i_41, i_42, i_43, i_44, i_45, i_47, i_48, i_49, i_50, i_51, i_52, i_57, i_59, i_60, i_61, i_62, i_63, i_64, i_71, i_72, i_80, i_91, i_93, i_97, i_99, i_100, i_122, i_227, i_228, i_232, i_251, i_255, i_256, i_463, i_999, i_1000, i_1519, i_1600, i_9999, i_100000000, i_2147483639, i_2147483647, neg_nI1, nI_add, pk_mul, nI_remL, pk_sub, pk_div, nI_clamp, nI_leI, nI_ltI, nI_eq, vpT, nI_m1, m1_nI, nI_lem1, m1_le, m1_lt, nI_ltm1, nI_bit, nI_shl, nI_xor, nI_or, n_rem, forall_eq, true_and, and_true, implies_true, true_implies, false_implies, not_true_eq_false, not_false_eq_true, Nat.zero_add, Nat.add_zero, ite_true, ite_false, if_true, if_false, true_or, or_true, false_or, or_false, and_self, and_false, false_and, Nat.reduceEqDiff, reduceIte]
    unfold opSee at hQ
    rw [if_neg hc] at hQ
    exact ml_refuses hA' (by decide) hQ
  have bad2 : ¬ (0 < wTn Z ∧ wTn Z % 4 = 0 ∧ wTn Z ≤ 64 ∧ (List.range (wTn Z / 4)).all (rowOK (wP Z) (wTp Z)) = true) → mw_see_32 (nI (wTn Z)) σ1 Q := by
    intro hc
    unfold mw_see_32 mw_see_33 mw_see_36
    intro X hX
    refine hX _ _ _ _ ?_
    have := bad σ1 hA hc
    simp (disch := omega) only [i_0, i_1, i_2, i_3, i_4, i_5, i_6, i_7, i_8, i_9, i_10, i_11, i_12, i_13, i_16, i_19, i_20, i_21, i_22, i_23, i_24, i_25, i_30, i_31, i_32, i_39, i_40, i_41, i_42, i_43, i_44, i_45, i_47, i_48, i_49, i_50, i_51, i_52, i_57, i_59, i_60, i_61, i_62, i_63, i_64, i_71, i_72, i_80, i_91, i_93, i_97, i_99, i_100, i_122, i_227, i_228, i_232, i_251, i_255, i_256, i_463, i_999, i_1000, i_1519, i_1600, i_9999, i_100000000, i_2147483639, i_2147483647, neg_nI1, nI_add, pk_mul, nI_remL, pk_sub, pk_div, nI_clamp, nI_leI, nI_ltI, nI_eq, vpT, nI_m1, m1_nI, nI_lem1, m1_le, m1_lt, nI_ltm1, nI_bit, nI_shl, nI_xor, nI_or, n_rem, forall_eq, true_and, and_true, implies_true, true_implies, false_implies, not_true_eq_false, not_false_eq_true, Nat.zero_add, Nat.add_zero, ite_true, ite_false, if_true, if_false, true_or, or_true, false_or, or_false, and_self, and_false, false_and, Nat.reduceEqDiff, reduceIte]
    exact ⟨fun _ => this, fun _ => this⟩
  simp (disch := omega) only [i_0, i_1, i_2, i_3, i_4, i_5, i_6, i_7, i_8, i_9, i_10, i_11, i_12, i_13, i_16, i_19, i_20, i_21, i_22, i_23, i_24, i_25, i_30, i_31, i_32, i_39, i_40, i_41, i_42, i_43, i_44, i_45, i_47, i_48, i_49, i_50, i_51, i_52, i_57, i_59, i_60, i_61, i_62, i_63, i_64, i_71, i_72, i_80, i_91, i_93, i_97, i_99, i_100, i_122, i_227, i_228, i_232, i_251, i_255, i_256, i_463, i_999, i_1000, i_1519, i_1600, i_9999, i_100000000, i_2147483639, i_2147483647, neg_nI1, nI_add, pk_mul, nI_remL, pk_sub, pk_div, nI_clamp, nI_leI, nI_ltI, nI_eq, vpT, nI_m1, m1_nI, nI_lem1, m1_le, m1_lt, nI_ltm1, nI_bit, nI_shl, nI_xor, nI_or, n_rem, forall_eq, true_and, and_true, implies_true, true_implies, false_implies, not_true_eq_false, not_false_eq_true, Nat.zero_add, Nat.add_zero, ite_true, ite_false, if_true, if_false, true_or, or_true, false_or, or_false, and_self, and_false, false_and, Nat.reduceEqDiff, reduceIte]
  refine ⟨fun z => bad2 (by omega), fun z1 => ⟨fun z => bad2 (by omega), fun z2 => ⟨fun z => bad2 (by omega), fun z3 => ?_⟩⟩⟩
  unfold mw_see_33 mw_see_36
  intro X hX
  have tp : ∀ i, i < 1600 → fA σ1 0 i = nI (wTp Z i) := hA.2.1.2
  have key : ∀ m k, wTn Z / 4 - k = m → k ≤ wTn Z / 4 → (∀ i, i < k → rowOK (wP Z) (wTp Z) i = true) → X (nI (wTn Z)) (nI 1) (nI (4 * k)) σ1 := by
    intro m
    induction m with
    | zero =>
      intro k hm hk hall
      refine hX _ _ _ _ ?_
      simp (disch := omega) only [i_0, i_1, i_2, i_3, i_4, i_5, i_6, i_7, i_8, i_9, i_10, i_11, i_12, i_13, i_16, i_19, i_20, i_21, i_22, i_23, i_24, i_25, i_30, i_31, i_32, i_39, i_40, i_41, i_42, i_43, i_44, i_45, i_47, i_48, i_49, i_50, i_51, i_52, i_57, i_59, i_60, i_61, i_62, i_63, i_64, i_71, i_72, i_80, i_91, i_93, i_97, i_99, i_100, i_122, i_227, i_228, i_232, i_251, i_255, i_256, i_463, i_999, i_1000, i_1519, i_1600, i_9999, i_100000000, i_2147483639, i_2147483647, neg_nI1, nI_add, pk_mul, nI_remL, pk_sub, pk_div, nI_clamp, nI_leI, nI_ltI, nI_eq, vpT, nI_m1, m1_nI, nI_lem1, m1_le, m1_lt, nI_ltm1, nI_bit, nI_shl, nI_xor, nI_or, n_rem, forall_eq, true_and, and_true, implies_true, true_implies, false_implies, not_true_eq_false, not_false_eq_true, Nat.zero_add, Nat.add_zero, ite_true, ite_false, if_true, if_false, true_or, or_true, false_or, or_false, and_self, and_false, false_and, Nat.reduceEqDiff, reduceIte]
      refine ⟨fun _ => ?_, fun z => by omega⟩
      have hok : (List.range (wTn Z / 4)).all (rowOK (wP Z) (wTp Z)) = true := by
        rw [List.all_eq_true]
        intro i hi
        exact hall i (by have := List.mem_range.mp hi; omega)
      unfold opSee at hQ
      rw [if_pos ⟨by omega, by omega, by omega, hok⟩] at hQ
      unfold mw_see_105
      simp (disch := omega) only [i_0, i_1, i_2, i_3, i_4, i_5, i_6, i_7, i_8, i_9, i_10, i_11, i_12, i_13, i_16, i_19, i_20, i_21, i_22, i_23, i_24, i_25, i_30, i_31, i_32, i_39, i_40, i_41, i_42, i_43, i_44, i_45, i_47, i_48, i_49, i_50, i_51, i_52, i_57, i_59, i_60, i_61, i_62, i_63, i_64, i_71, i_72, i_80, i_91, i_93, i_97, i_99, i_100, i_122, i_227, i_228, i_232, i_251, i_255, i_256, i_463, i_999, i_1000, i_1519, i_1600, i_9999, i_100000000, i_2147483639, i_2147483647, neg_nI1, nI_add, pk_mul, nI_remL, pk_sub, pk_div, nI_clamp, nI_leI, nI_ltI, nI_eq, vpT, nI_m1, m1_nI, nI_lem1, m1_le, m1_lt, nI_ltm1, nI_bit, nI_shl, nI_xor, nI_or, n_rem, forall_eq, true_and, and_true, implies_true, true_implies, false_implies, not_true_eq_false, not_false_eq_true, Nat.zero_add, Nat.add_zero, ite_true, ite_false, if_true, if_false, true_or, or_true, false_or, or_false, and_self, and_false, false_and, Nat.reduceEqDiff, reduceIte]
      unfold mw_see_124
      intro Y hY
      have hP1 : mPo σ1 (wP Z) := hA.2.2.2.2.1
      have fill : ∀ m k (σ2 : FS), wTn Z / 4 - k = m → k ≤ wTn Z / 4 → Fm [71] [72] [] σ1 σ2 → fI σ2 0 71 = nI (wTn Z / 4) → (∀ i, i < k → fA σ2 72 (3 * i) = nI (rowAt (wTp Z) i).1 ∧ fA σ2 72 (3 * i + 1) = nI (c7 (rowAt (wTp Z) i).2.1) ∧ fA σ2 72 (3 * i + 2) = nI (rowAt (wTp Z) i).2.2) → Y (nI k) σ2 := by
        intro m
        induction m with
        | zero =>
          intro k σ2 hm hk hF f71 hr
          refine hY _ _ ?_
          rw [f71]
          refine ⟨fun _ => hQ σ2 ?_, fun z => absurd ((nI_leI (by omega) (by omega)).mpr (by omega)) z⟩
          obtain ⟨g1, g2, g3, g4, g5, g6, g7, g8, g9, g10, g11, g12, g13, g14⟩ := hA
          refine ⟨?_, ⟨by rw [hF.1 1 (by decide)]; exact g2.1, by rw [hF.2.1 0 (by decide)]; exact g2.2⟩, by rw [hF.1 7 (by decide), hF.1 8 (by decide)]; exact g3, by rw [hF.2.1 9 (by decide)]; exact g4, g5.fm hF (by decide) (by decide) (by decide), g6.eqv (hF.2.1 52 (by decide)), by unfold mKe; rw [hF.2.1 52 (by decide)]; exact g7, ⟨?_, fun i q hq => ?_⟩, by unfold mUn; rw [hF.1 76 (by decide), hF.1 77 (by decide), hF.2.1 75 (by decide)]; exact g9, by rw [hF.2.2.2]; exact g10, ⟨by rw [hF.1 113 (by decide)]; exact g11.1, by rw [hF.2.1 112 (by decide)]; exact g11.2⟩, g12.eqv (hF.1 56 (by decide)), by rw [hF.1 57 (by decide), hF.1 60 (by decide)]; exact g13, g14.fm (fun a z => hF.2.1 a (by simp; omega))⟩
          · obtain ⟨w1, w2, w3, w4, w5, w6, w7, w8⟩ := g1
            refine ⟨w1, w2, w3, w4, w5, ?_, fun q hq => ?_, w8⟩
            · show ((List.range (wTn Z / 4)).map (rowAt (wTp Z))).length ≤ 16
              rw [List.length_map, List.length_range]; omega
            · have hq : q ∈ (List.range (wTn Z / 4)).map (rowAt (wTp Z)) := hq
              obtain ⟨i, hi, rfl⟩ := List.mem_map.mp hq
              have h5 := hall i (by have := List.mem_range.mp hi; omega)
              unfold rowOK at h5
              rw [decide_eq_true_iff] at h5
              refine ⟨h5.1, ?_, h5.2.2.2⟩
              show isC (wP Z) (8 * wTp Z (4 * i + 2) + wTp Z (4 * i + 1))
              constructor <;> omega
          · show fI σ2 0 71 = nI ((List.range (wTn Z / 4)).map (rowAt (wTp Z))).length
            rw [f71, List.length_map, List.length_range]
          · have hq : ((List.range (wTn Z / 4)).map (rowAt (wTp Z)))[i]? = some q := hq
            have hi := (List.getElem?_eq_some_iff.mp hq).1
            rw [List.length_map, List.length_range] at hi
            rw [List.getElem?_map, List.getElem?_range hi] at hq
            cases hq
            exact hr i (by omega)
        | succ m ih =>
          intro k σ2 hm hk hF f71 hr
          have h5 := hall k (by omega)
          unfold rowOK at h5
          rw [decide_eq_true_iff] at h5
          have tp2 : ∀ i, i < 1600 → fA σ2 0 i = nI (wTp Z i) := by rw [hF.2.1 0 (by decide)]; exact tp
          have b0 := hT2 (4 * k); have b1 := hT2 (4 * k + 1); have b2 := hT2 (4 * k + 2); have b3 := hT2 (4 * k + 3)
          refine hY _ _ ?_
          rw [f71]
          simp (disch := omega) only [i_0, i_1, i_2, i_3, i_4, i_5, i_6, i_7, i_8, i_9, i_10, i_11, i_12, i_13, i_16, i_19, i_20, i_21, i_22, i_23, i_24, i_25, i_30, i_31, i_32, i_39, i_40, i_41, i_42, i_43, i_44, i_45, i_47, i_48, i_49, i_50, i_51, i_52, i_57, i_59, i_60, i_61, i_62, i_63, i_64, i_71, i_72, i_80, i_91, i_93, i_97, i_99, i_100, i_122, i_227, i_228, i_232, i_251, i_255, i_256, i_463, i_999, i_1000, i_1519, i_1600, i_9999, i_100000000, i_2147483639, i_2147483647, neg_nI1, nI_add, pk_mul, nI_remL, pk_sub, pk_div, nI_clamp, nI_leI, nI_ltI, nI_eq, vpT, nI_m1, m1_nI, nI_lem1, m1_le, m1_lt, nI_ltm1, nI_bit, nI_shl, nI_xor, nI_or, n_rem, forall_eq, true_and, and_true, implies_true, true_implies, false_implies, not_true_eq_false, not_false_eq_true, Nat.zero_add, Nat.add_zero, ite_true, ite_false, if_true, if_false, true_or, or_true, false_or, or_false, and_self, and_false, false_and, Nat.reduceEqDiff, reduceIte, fA_sA]
          rw [tp2 _ (by omega), tp2 _ (by omega), tp2 _ (by omega)]
          refine ⟨fun z => by omega, fun _ => ?_⟩
          have hFa : Fm [71] [72] [] σ2 (sA σ2 72 (3 * k) (nI (wTp Z (4 * k)))) := Fm.sA σ2 _ _ (by decide)
          refine ml_cellAt ((hP1.fm hF (by decide) (by decide) (by decide)).fm hFa (by decide) (by decide) (by decide)) (fun c c1 _ c3 => ?_) (fun c1 => ?_)
          · rw [cellS_nI ⟨hnp.2.2.1, hnp.2.2.2.1⟩ (by omega) (by omega), if_pos ⟨h5.2.1, h5.2.2.1⟩] at c1
            cases c1
            rw [show fA (sA σ2 72 (3 * k) (nI (wTp Z (4 * k)))) 0 (4 * k + 3) = nI (wTp Z (4 * k + 3)) from by rw [fA_sA, if_neg (by omega)]; exact tp2 _ (by omega)]
            refine ih (k + 1) _ (by omega) (by omega) (hF.trans (hFa.trans ((Fm.sA _ _ _ (by decide)).trans (Fm.sA _ _ _ (by decide))))) f71 (fun i hi => ?_)
            rw [fA_sA, fA_sA, fA_sA, fA_sA, fA_sA, fA_sA, fA_sA, fA_sA, fA_sA]
            by_cases z : i = k
            · subst z
              rw [if_neg (by omega), if_neg (by omega), if_pos ⟨rfl, rfl⟩, if_neg (by omega), if_pos ⟨rfl, rfl⟩, if_pos ⟨rfl, rfl⟩]
              exact ⟨rfl, rfl, rfl⟩
            · rw [if_neg (by omega), if_neg (by omega), if_neg (by omega), if_neg (by omega), if_neg (by omega), if_neg (by omega), if_neg (by omega), if_neg (by omega), if_neg (by omega)]
              exact hr i (by omega)
          · rw [cellS_nI ⟨hnp.2.2.1, hnp.2.2.2.1⟩ (by omega) (by omega), if_pos ⟨h5.2.1, h5.2.2.1⟩] at c1
            cases c1
      refine fill _ 0 _ rfl (by omega) (Fm.sI σ1 _ (by decide)) ?_ (fun i hi => by omega)
      rw [fI_sI]; simp
    | succ m ih =>
      intro k hm hk hall
      have hP1 : mPo σ1 (wP Z) := hA.2.2.2.2.1
      have b0 := hT2 (4 * k); have b1 := hT2 (4 * k + 1); have b2 := hT2 (4 * k + 2); have b3 := hT2 (4 * k + 3)
      have fail : rowOK (wP Z) (wTp Z) k = false → ∀ v : Int32, v = nI 0 → X (nI (wTn Z)) v (nI (4 * k + 4)) σ1 := by
        intro hf v hv
        subst hv
        refine hX _ _ _ _ ?_
        have := bad σ1 hA (fun q => by
          have := List.all_eq_true.mp q.2.2.2 k (List.mem_range.mpr (by omega))
          rw [hf] at this; cases this)
        simp (disch := omega) only [i_0, i_1, i_2, i_3, i_4, i_5, i_6, i_7, i_8, i_9, i_10, i_11, i_12, i_13, i_16, i_19, i_20, i_21, i_22, i_23, i_24, i_25, i_30, i_31, i_32, i_39, i_40, i_41, i_42, i_43, i_44, i_45, i_47, i_48, i_49, i_50, i_51, i_52, i_57, i_59, i_60, i_61, i_62, i_63, i_64, i_71, i_72, i_80, i_91, i_93, i_97, i_99, i_100, i_122, i_227, i_228, i_232, i_251, i_255, i_256, i_463, i_999, i_1000, i_1519, i_1600, i_9999, i_100000000, i_2147483639, i_2147483647, neg_nI1, nI_add, pk_mul, nI_remL, pk_sub, pk_div, nI_clamp, nI_leI, nI_ltI, nI_eq, vpT, nI_m1, m1_nI, nI_lem1, m1_le, m1_lt, nI_ltm1, nI_bit, nI_shl, nI_xor, nI_or, n_rem, forall_eq, true_and, and_true, implies_true, true_implies, false_implies, not_true_eq_false, not_false_eq_true, Nat.zero_add, Nat.add_zero, ite_true, ite_false, if_true, if_false, true_or, or_true, false_or, or_false, and_self, and_false, false_and, Nat.reduceEqDiff, reduceIte]
        exact ⟨fun _ => this, fun _ => this⟩
      refine hX _ _ _ _ ?_
      unfold mw_see_97 mw_see_98
      simp (disch := omega) only [i_0, i_1, i_2, i_3, i_4, i_5, i_6, i_7, i_8, i_9, i_10, i_11, i_12, i_13, i_16, i_19, i_20, i_21, i_22, i_23, i_24, i_25, i_30, i_31, i_32, i_39, i_40, i_41, i_42, i_43, i_44, i_45, i_47, i_48, i_49, i_50, i_51, i_52, i_57, i_59, i_60, i_61, i_62, i_63, i_64, i_71, i_72, i_80, i_91, i_93, i_97, i_99, i_100, i_122, i_227, i_228, i_232, i_251, i_255, i_256, i_463, i_999, i_1000, i_1519, i_1600, i_9999, i_100000000, i_2147483639, i_2147483647, neg_nI1, nI_add, pk_mul, nI_remL, pk_sub, pk_div, nI_clamp, nI_leI, nI_ltI, nI_eq, vpT, nI_m1, m1_nI, nI_lem1, m1_le, m1_lt, nI_ltm1, nI_bit, nI_shl, nI_xor, nI_or, n_rem, forall_eq, true_and, and_true, implies_true, true_implies, false_implies, not_true_eq_false, not_false_eq_true, Nat.zero_add, Nat.add_zero, ite_true, ite_false, if_true, if_false, true_or, or_true, false_or, or_false, and_self, and_false, false_and, Nat.reduceEqDiff, reduceIte]
      rw [tp _ (by omega), tp _ (by omega), tp _ (by omega)]
      simp (disch := omega) only [i_0, i_1, i_2, i_3, i_4, i_5, i_6, i_7, i_8, i_9, i_10, i_11, i_12, i_13, i_16, i_19, i_20, i_21, i_22, i_23, i_24, i_25, i_30, i_31, i_32, i_39, i_40, i_41, i_42, i_43, i_44, i_45, i_47, i_48, i_49, i_50, i_51, i_52, i_57, i_59, i_60, i_61, i_62, i_63, i_64, i_71, i_72, i_80, i_91, i_93, i_97, i_99, i_100, i_122, i_227, i_228, i_232, i_251, i_255, i_256, i_463, i_999, i_1000, i_1519, i_1600, i_9999, i_100000000, i_2147483639, i_2147483647, neg_nI1, nI_add, pk_mul, nI_remL, pk_sub, pk_div, nI_clamp, nI_leI, nI_ltI, nI_eq, vpT, nI_m1, m1_nI, nI_lem1, m1_le, m1_lt, nI_ltm1, nI_bit, nI_shl, nI_xor, nI_or, n_rem, forall_eq, true_and, and_true, implies_true, true_implies, false_implies, not_true_eq_false, not_false_eq_true, Nat.zero_add, Nat.add_zero, ite_true, ite_false, if_true, if_false, true_or, or_true, false_or, or_false, and_self, and_false, false_and, Nat.reduceEqDiff, reduceIte]
      refine ⟨fun z => by omega, fun _ => ⟨fun z => fail (by unfold rowOK; rw [decide_eq_false_iff_not]; omega) _ rfl, fun z4 => ?_⟩⟩
      refine ml_cellAt hP1 (fun c c1 c2 c3 => ?_) (fun c1 => ?_)
      · have h49 := c7_lt c2.1 c3
        rw [cellS_nI ⟨hnp.2.2.1, hnp.2.2.2.1⟩ (by omega) (by omega)] at c1
        split at c1
        · rename_i q
          simp (disch := omega) only [i_0, i_1, i_2, i_3, i_4, i_5, i_6, i_7, i_8, i_9, i_10, i_11, i_12, i_13, i_16, i_19, i_20, i_21, i_22, i_23, i_24, i_25, i_30, i_31, i_32, i_39, i_40, i_41, i_42, i_43, i_44, i_45, i_47, i_48, i_49, i_50, i_51, i_52, i_57, i_59, i_60, i_61, i_62, i_63, i_64, i_71, i_72, i_80, i_91, i_93, i_97, i_99, i_100, i_122, i_227, i_228, i_232, i_251, i_255, i_256, i_463, i_999, i_1000, i_1519, i_1600, i_9999, i_100000000, i_2147483639, i_2147483647, neg_nI1, nI_add, pk_mul, nI_remL, pk_sub, pk_div, nI_clamp, nI_leI, nI_ltI, nI_eq, vpT, nI_m1, m1_nI, nI_lem1, m1_le, m1_lt, nI_ltm1, nI_bit, nI_shl, nI_xor, nI_or, n_rem, forall_eq, true_and, and_true, implies_true, true_implies, false_implies, not_true_eq_false, not_false_eq_true, Nat.zero_add, Nat.add_zero, ite_true, ite_false, if_true, if_false, true_or, or_true, false_or, or_false, and_self, and_false, false_and, Nat.reduceEqDiff, reduceIte]
          rw [tp _ (by omega)]
          simp (disch := omega) only [i_0, i_1, i_2, i_3, i_4, i_5, i_6, i_7, i_8, i_9, i_10, i_11, i_12, i_13, i_16, i_19, i_20, i_21, i_22, i_23, i_24, i_25, i_30, i_31, i_32, i_39, i_40, i_41, i_42, i_43, i_44, i_45, i_47, i_48, i_49, i_50, i_51, i_52, i_57, i_59, i_60, i_61, i_62, i_63, i_64, i_71, i_72, i_80, i_91, i_93, i_97, i_99, i_100, i_122, i_227, i_228, i_232, i_251, i_255, i_256, i_463, i_999, i_1000, i_1519, i_1600, i_9999, i_100000000, i_2147483639, i_2147483647, neg_nI1, nI_add, pk_mul, nI_remL, pk_sub, pk_div, nI_clamp, nI_leI, nI_ltI, nI_eq, vpT, nI_m1, m1_nI, nI_lem1, m1_le, m1_lt, nI_ltm1, nI_bit, nI_shl, nI_xor, nI_or, n_rem, forall_eq, true_and, and_true, implies_true, true_implies, false_implies, not_true_eq_false, not_false_eq_true, Nat.zero_add, Nat.add_zero, ite_true, ite_false, if_true, if_false, true_or, or_true, false_or, or_false, and_self, and_false, false_and, Nat.reduceEqDiff, reduceIte]
          refine ⟨fun z => fail (by unfold rowOK; rw [decide_eq_false_iff_not]; omega) _ rfl, fun z5 => ?_⟩
          refine ih (k + 1) (by omega) (by omega) (fun i hi => ?_)
          rcases Nat.lt_or_ge i k with w | w
          · exact hall i w
          · have : i = k := by omega
            subst this
            unfold rowOK; rw [decide_eq_true_iff]
            exact ⟨by omega, q.1, q.2, by omega⟩
        · cases c1
      · simp (disch := omega) only [i_0, i_1, i_2, i_3, i_4, i_5, i_6, i_7, i_8, i_9, i_10, i_11, i_12, i_13, i_16, i_19, i_20, i_21, i_22, i_23, i_24, i_25, i_30, i_31, i_32, i_39, i_40, i_41, i_42, i_43, i_44, i_45, i_47, i_48, i_49, i_50, i_51, i_52, i_57, i_59, i_60, i_61, i_62, i_63, i_64, i_71, i_72, i_80, i_91, i_93, i_97, i_99, i_100, i_122, i_227, i_228, i_232, i_251, i_255, i_256, i_463, i_999, i_1000, i_1519, i_1600, i_9999, i_100000000, i_2147483639, i_2147483647, neg_nI1, nI_add, pk_mul, nI_remL, pk_sub, pk_div, nI_clamp, nI_leI, nI_ltI, nI_eq, vpT, nI_m1, m1_nI, nI_lem1, m1_le, m1_lt, nI_ltm1, nI_bit, nI_shl, nI_xor, nI_or, n_rem, forall_eq, true_and, and_true, implies_true, true_implies, false_implies, not_true_eq_false, not_false_eq_true, Nat.zero_add, Nat.add_zero, ite_true, ite_false, if_true, if_false, true_or, or_true, false_or, or_false, and_self, and_false, false_and, Nat.reduceEqDiff, reduceIte]
        rw [cellS_nI ⟨hnp.2.2.1, hnp.2.2.2.1⟩ (by omega) (by omega)] at c1
        split at c1
        · cases c1
        · rename_i q
          exact fail (by unfold rowOK; rw [decide_eq_false_iff_not]; exact fun w => q ⟨w.2.1, w.2.2.1⟩) _ rfl
  exact key _ 0 rfl (by omega) (fun i hi => by omega)
/-! who was asked -/
def whoOK (P : Pl) (s : St) (rows : List (Nat × Nat × Nat)) (t p : Nat) : Bool := rows.all (fun q => decide (zD s + q.1 ≤ 999 ∧ zH (zDs P 0 q.1 (zAs P 0 s p t)) q.2.1 = q.2.2))
def setOf (f : Nat → Bool) : Nat → Nat
  | 0 => 0
  | n + 1 => if f n = true then setOf f n ||| 2 ^ n else setOf f n
theorem setOf_lt (f : Nat → Bool) : ∀ n, setOf f n < 2 ^ n
  | 0 => by simp [setOf]
  | n + 1 => by
    have h := setOf_lt f n
    unfold setOf
    split
    · exact Nat.or_lt_two_pow (Nat.lt_trans h (Nat.pow_lt_pow_right (by decide) (by omega))) (Nat.pow_lt_pow_right (by decide) (by omega))
    · exact Nat.lt_trans h (Nat.pow_lt_pow_right (by decide) (by omega))
def opWho (Z : Wd) (x : Int32) : Int32 := match ix x (nT (wP Z)) with
  | some t => nI (setOf (whoOK (wP Z) (wS Z) (wR Z) t) (nP (wP Z)))
  | none => M1
/-- how high each cell is behind each day, by who is asked -/
def mWy (σ : FS) (P : Pl) (s : St) (t k : Nat) : Prop := ∀ p d c, p < k → d ≤ 30 → isC P c → fA σ 73 (1519 * p + 49 * d + c7 c) = nI (zH (zDs P 0 d (zAs P 0 s p t)) c)
theorem zDs_add {P : Pl} {sil : Nat} : ∀ (n : Nat) (s : St), zDs P sil (n + 1) s = zDy P sil (zDs P sil n s)
  | 0, s => rfl
  | n + 1, s => by
    show zDs P sil (n + 1) (zDy P sil s) = _
    rw [zDs_add n (zDy P sil s)]
    rfl
/-- as seen on one day -/
def seenD (s : St) (rows : List (Nat × Nat × Nat)) (d : Nat) : Bool := rows.all (fun q => decide (q.1 = d → zD s ≤ 999 ∧ zH s q.2.1 = q.2.2))
theorem ml_isAsSeen {σ : FS} {Z : Wd} {s : St} {d : Nat} {Q : Int32 → FS → Prop} (hok : woOK Z) (hP : mP σ (wP Z)) (hN : mN σ (wP Z) s) (hR : mRw σ Z) (hd : d ≤ 30) (hQ : Q (nI (if seenD s (wR Z) d = true then 1 else 0)) σ) : mw_isAsSeen (nI d) σ Q := by
  have hl := hok.2.2.2.2.2.1
  have hr := hok.2.2.2.2.2.2.1
  have hz := hN.1.1
  unfold mw_isAsSeen mw_isAsSeen_2
  intro X hX
  have key : ∀ m k, (wR Z).length - k = m → k ≤ (wR Z).length → (∀ (i : Nat) q, i < k → (wR Z)[i]? = some q → (q.1 = d → zD s ≤ 999 ∧ zH s q.2.1 = q.2.2)) → X (nI d) (nI k) σ := by
    intro m
    induction m with
    | zero =>
      intro k hm hk hall
      refine hX _ _ _ ?_
      rw [hR.1]
      refine ⟨fun _ => ?_, fun z => absurd ((nI_leI (by omega) (by omega)).mpr (by omega)) z⟩
      have : seenD s (wR Z) d = true := by
        unfold seenD
        rw [List.all_eq_true]
        intro q hq
        obtain ⟨i, hi⟩ := List.mem_iff_getElem?.mp hq
        rw [decide_eq_true_iff]
        exact hall i q (by have := (List.getElem?_eq_some_iff.mp hi).1; omega) hi
      rw [if_pos this] at hQ
      exact hQ
    | succ m ih =>
      intro k hm hk hall
      obtain ⟨q, hq⟩ : ∃ q, (wR Z)[k]? = some q := ⟨_, List.getElem?_eq_getElem (by omega)⟩
      obtain ⟨e1, e2, e3⟩ := hR.2 k q hq
      obtain ⟨r1, r2, r3⟩ := hr q (List.mem_of_getElem? hq)
      have hh := hN.1.2.1 _ r2
      have no : ¬ (q.1 = d → zD s ≤ 999 ∧ zH s q.2.1 = q.2.2) → Q (nI 0) σ := by
        intro hno
        have : seenD s (wR Z) d = false := by
          unfold seenD
          rw [List.all_eq_false]
          exact ⟨q, List.mem_of_getElem? hq, by rw [decide_eq_true_iff]; exact hno⟩
        rw [this, if_neg (by decide)] at hQ
        exact hQ
      have yes : (q.1 = d → zD s ≤ 999 ∧ zH s q.2.1 = q.2.2) → mw_isAsSeen_63 X (nI d) (nI k) σ Q := by
        intro hy
        unfold mw_isAsSeen_63
        rw [nI_1]
        refine ih (k + 1) (by omega) (by omega) (fun i q' hi hq' => ?_)
        rcases Nat.lt_or_ge i k with w | w
        · exact hall i q' w hq'
        · have : i = k := by omega
          subst this
          rw [hq] at hq'; cases hq'
          exact hy
      refine hX _ _ _ ?_
      rw [hR.1]
      simp (disch := omega) only [i_0, i_1, i_2, i_3, i_4, i_5, i_6, i_7, i_8, i_9, i_10, i_11, i_12, i_13, i_16, i_19, i_20, i_21, i_22, i_23, i_24, i_25, i_30, i_31, i_32, i_39, i_40, i_41, i_42, i_43, i_44, i_45, i_47, i_48, i_49, i_50, i_51, i_52, i_57, i_59, i_60, i_61, i_62, i_63, i_64, i_71, i_72, i_80, i_91, i_93, i_97, i_99, i_100, i_122, i_227, i_228, i_232, i_251, i_255, i_256, i_463, i_999, i_1000, i_1519, i_1600, i_9999, i_100000000, i_2147483639, i_2147483647, neg_nI1, nI_add, pk_mul, nI_remL, pk_sub, pk_div, nI_clamp, nI_leI, nI_ltI, nI_eq, vpT, nI_m1, m1_nI, nI_lem1, m1_le, m1_lt, nI_ltm1, nI_bit, nI_shl, nI_xor, nI_or, n_rem, forall_eq, true_and, and_true, implies_true, true_implies, false_implies, not_true_eq_false, not_false_eq_true, Nat.zero_add, Nat.add_zero, ite_true, ite_false, if_true, if_false, true_or, or_true, false_or, or_false, and_self, and_false, false_and, Nat.reduceEqDiff, reduceIte]
      rw [e1, e2, hN.2.1]
      simp (disch := omega) only [i_0, i_1, i_2, i_3, i_4, i_5, i_6, i_7, i_8, i_9, i_10, i_11, i_12, i_13, i_16, i_19, i_20, i_21, i_22, i_23, i_24, i_25, i_30, i_31, i_32, i_39, i_40, i_41, i_42, i_43, i_44, i_45, i_47, i_48, i_49, i_50, i_51, i_52, i_57, i_59, i_60, i_61, i_62, i_63, i_64, i_71, i_72, i_80, i_91, i_93, i_97, i_99, i_100, i_122, i_227, i_228, i_232, i_251, i_255, i_256, i_463, i_999, i_1000, i_1519, i_1600, i_9999, i_100000000, i_2147483639, i_2147483647, neg_nI1, nI_add, pk_mul, nI_remL, pk_sub, pk_div, nI_clamp, nI_leI, nI_ltI, nI_eq, vpT, nI_m1, m1_nI, nI_lem1, m1_le, m1_lt, nI_ltm1, nI_bit, nI_shl, nI_xor, nI_or, n_rem, forall_eq, true_and, and_true, implies_true, true_implies, false_implies, not_true_eq_false, not_false_eq_true, Nat.zero_add, Nat.add_zero, ite_true, ite_false, if_true, if_false, true_or, or_true, false_or, or_false, and_self, and_false, false_and, Nat.reduceEqDiff, reduceIte]
      refine ⟨fun z => by omega, fun _ => ⟨fun z => yes (fun w => absurd w z), fun z => ⟨fun z2 => no (fun w => by have := (w z).1; omega), fun z2 => ml_heightOf hP hN r2 ?_⟩⟩⟩
      rw [e3]
      simp (disch := omega) only [i_0, i_1, i_2, i_3, i_4, i_5, i_6, i_7, i_8, i_9, i_10, i_11, i_12, i_13, i_16, i_19, i_20, i_21, i_22, i_23, i_24, i_25, i_30, i_31, i_32, i_39, i_40, i_41, i_42, i_43, i_44, i_45, i_47, i_48, i_49, i_50, i_51, i_52, i_57, i_59, i_60, i_61, i_62, i_63, i_64, i_71, i_72, i_80, i_91, i_93, i_97, i_99, i_100, i_122, i_227, i_228, i_232, i_251, i_255, i_256, i_463, i_999, i_1000, i_1519, i_1600, i_9999, i_100000000, i_2147483639, i_2147483647, neg_nI1, nI_add, pk_mul, nI_remL, pk_sub, pk_div, nI_clamp, nI_leI, nI_ltI, nI_eq, vpT, nI_m1, m1_nI, nI_lem1, m1_le, m1_lt, nI_ltm1, nI_bit, nI_shl, nI_xor, nI_or, n_rem, forall_eq, true_and, and_true, implies_true, true_implies, false_implies, not_true_eq_false, not_false_eq_true, Nat.zero_add, Nat.add_zero, ite_true, ite_false, if_true, if_false, true_or, or_true, false_or, or_false, and_self, and_false, false_and, Nat.reduceEqDiff, reduceIte]
      exact ⟨fun z3 => yes (fun _ => ⟨by omega, z3⟩), fun z3 => no (fun w => z3 (w z).2)⟩
  exact key _ 0 rfl (by omega) (fun i q hi => by omega)
