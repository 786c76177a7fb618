/-! THE REFERENCE: who, tells -/
theorem whoOK_seen {P : Pl} {s : St} {rows : List (Nat × Nat × Nat)} {t p : Nat} (hr : ∀ q ∈ rows, q.1 ≤ 30) (hP : plOK P) (hs : stOK P s) (hz : zD s ≤ 999) : whoOK P s rows t p = (List.range 31).all (fun d => seenD (zDs P 0 d (zAs P 0 s p t)) rows d) := by
  have hD : ∀ d, d ≤ 30 → zD (zDs P 0 d (zAs P 0 s p t)) = zD s + d := fun d hd => by
    rw [(zDs_ok hP d 0 _ (zAs_ok hs 0 p t) (by rw [zAs_D]; omega)).2, zAs_D]
  apply Bool.eq_iff_iff.mpr
  unfold whoOK
  rw [List.all_eq_true, List.all_eq_true]
  constructor
  · intro h d hd
    have hd31 := List.mem_range.mp hd
    unfold seenD
    rw [List.all_eq_true]
    intro q hq
    have h2 := h q hq
    rw [decide_eq_true_iff] at h2 ⊢
    intro e
    subst e
    rw [hD _ (by omega)]
    exact h2
  · intro h q hq
    have h1 := hr q hq
    have h2 := h q.1 (List.mem_range.mpr (by omega))
    unfold seenD at h2
    rw [List.all_eq_true] at h2
    have h3 := h2 q hq
    rw [decide_eq_true_iff] at h3 ⊢
    have h4 := h3 rfl
    rw [hD _ h1] at h4
    exact h4
theorem all_range_succ (f : Nat → Bool) (n : Nat) : (List.range (n + 1)).all f = ((List.range n).all f && f n) := by
  rw [List.range_succ, List.all_append]; simp
theorem ml_laysWho {σ : FS} {Z : Wd} {t : Nat} {Q : FS → Prop} (hA : mAll σ Z) (ht : t < nT (wP Z)) (hQ : ∀ σ', mAll σ' Z → fI σ' 0 74 = nI (setOf (whoOK (wP Z) (wS Z) (wR Z) t) (nP (wP Z))) → mWy σ' (wP Z) (wS Z) t (nP (wP Z)) → Q σ') : mw_laysWho (nI t) σ Q := by
  have hAA := hA
  obtain ⟨h1, h2, h3, h4, h5, h6, h7, h8, h9, h10, h11, h12, h13, h14⟩ := hA
  have hnp := h1.np
  have hP : mP σ (wP Z) := h5.p (Or.inr (Or.inr (by omega)))
  have hz := h1.2.2.1
  have h128 := p2_le hnp.1
  unfold mw_laysWho
  intro σ0 e0
  have e0 : σ0 = sI σ 0 74 (nI 0) := e0
  have hA0 : mAll σ0 Z := by
    rw [e0]
    refine hAA.fm (ks := [74]) (as := []) (bs := []) (Fm.sI σ _ (by decide)) (by decide) (by decide) (by decide) (h12.eqv ?_)
    rw [fI_sI]; simp
  have e74 : fI σ0 0 74 = nI 0 := by rw [e0, fI_sI]; simp
  have hP0 : mP σ0 (wP Z) := hA0.2.2.2.2.1.p (Or.inr (Or.inr (by omega)))
  have hN0 := hA0.2.2.2.2.2.1
  have h130 := hA0.2.2.2.2.2.2.2.2.2.2.2.2.1
  have hRw := hA0.2.2.2.2.2.2.2.1
  refine ml_thinkX [74] [73] h130.2 (fun σ2 hT2 e52 hF2 => ?_)
  have hS2 : mSd σ2 := hA0.2.2.2.2.2.2.2.2.2.2.2.1.eqv (hF2.1 56 (by decide))
  unfold mw_laysWho_11
  intro X hX
  have hrr : ∀ q ∈ wR Z, q.1 ≤ 30 := fun q hq => (h1.2.2.2.2.2.2.1 q hq).1
  have rwf : ∀ σ', Thx [74] [73] 0 σ0 σ' → mRw σ' Z := by
    intro σ' hT
    exact ⟨by rw [hT.1.1 71 (by decide)]; exact hRw.1, by rw [hT.1.2.1 72 (by decide)]; exact hRw.2⟩
  have key : ∀ m p (σ3 : FS), nP (wP Z) - p = m → p ≤ nP (wP Z) → Thx [74] [73] 0 σ0 σ3 → fA σ3 52 = fA σ0 52 → mSd σ3 → fI σ3 0 74 = nI (setOf (whoOK (wP Z) (wS Z) (wR Z) t) p) → mWy σ3 (wP Z) (wS Z) t p → X (nI t) (nI p) σ3 := by
    intro m
    induction m with
    | zero =>
      intro p σ3 hm hp hT3 e3 hS3 e74 hW
      have hP3 := hT3.p hP0 (by decide) (by decide)
      have hpp : p = nP (wP Z) := by omega
      subst hpp
      refine hX _ _ _ (ml_personMany hP3 ⟨fun _ => ?_, fun z => absurd ((nI_leI (by omega) (by omega)).mpr (by omega)) z⟩)
      refine ml_backX hT3 hS3 h130.1 h130.2 (fun σ4 hF4 hS4 ha4 hk4 => ?_)
      refine hQ σ4 (hA0.fm hF4 (by decide) (by decide) (by decide) hS4) (by rw [hk4 74 (by decide) (by decide)]; exact e74) (fun p d c a b e => by rw [ha4 73 (by decide)]; exact hW p d c a b e)
    | succ m ih =>
      intro p σ3 hm hp hT3 e3 hS3 e74 hW
      have hP3 := hT3.p hP0 (by decide) (by decide)
      have hpp : p < nP (wP Z) := by omega
      have hset := setOf_lt (whoOK (wP Z) (wS Z) (wR Z) t) p
      have hset2 : 2 ^ p ≤ 2 ^ nP (wP Z) := Nat.pow_le_pow_right (by decide) (by omega)
      refine hX _ _ _ (ml_personMany hP3 ⟨fun z => absurd ((nI_leI (by omega) (by omega)).mp z) (by omega), fun _ => ?_⟩)
      refine ml_isAsked (s := wS Z) (th := 1) (sil := 0) hP3 (hN0.eqv e3) hS3 hpp ht hT3.2.1 (by decide) hT3.2.2.1 (by decide) (fun z => by omega) (fun σ4 hF4 hN4 hS4 _ _ => ?_)
      have hT4 := hT3.step hF4 (hN4.2.2 (by decide))
      unfold mw_laysWho_31
      intro Y hY
      have days : ∀ j d f (σ5 : FS), 31 - d = j → d ≤ 31 → f < 2 → Thx [74] [73] 0 σ0 σ5 → mN σ5 (wP Z) (zDs (wP Z) 0 d (zAs (wP Z) 0 (wS Z) p t)) → mSd σ5 → fI σ5 0 74 = nI (setOf (whoOK (wP Z) (wS Z) (wR Z) t) p) → mWy σ5 (wP Z) (wS Z) t p → (∀ d' c, d' < d → isC (wP Z) c → fA σ5 73 (1519 * p + 49 * d' + c7 c) = nI (zH (zDs (wP Z) 0 d' (zAs (wP Z) 0 (wS Z) p t)) c)) → (f = 1 ↔ (List.range d).all (fun d => seenD (zDs (wP Z) 0 d (zAs (wP Z) 0 (wS Z) p t)) (wR Z) d) = true) → Y (nI t) (nI p) (nI f) (nI d) σ5 := by
        intro j
        induction j with
        | zero =>
          intro d f σ5 hj hd hf hT5 hN5 hS5 g74 hW5 hc5 hff
          have hd31 : d = 31 := by omega
          subst hd31
          refine hY _ _ _ _ _ ?_
          rw [i_30]
          refine ⟨fun _ => ?_, fun z => absurd ((nI_ltI (by omega) (by omega)).mpr (by omega)) z⟩
          refine ml_anewX hT5 hS5 (fun σ6 hT6 e6 hS6 hF6 => ?_)
          have hW6 : mWy σ6 (wP Z) (wS Z) t (p + 1) := by
            intro p' d' c a b e
            rw [hF6.2.1 73 (by decide)]
            rcases Nat.lt_or_ge p' p with w | w
            · exact hW5 p' d' c w b e
            · have : p' = p := by omega
              subst this
              exact hc5 d' c (by omega) e
          rw [← whoOK_seen hrr hP.1 h6.1 hz] at hff
          have f6 : fI σ6 0 74 = nI (setOf (whoOK (wP Z) (wS Z) (wR Z) t) p) := by rw [hF6.1 74 (by decide)]; exact g74
          unfold mw_laysWho_128
          rw [f6]
          simp (disch := omega) only [i_0, i_1, i_2, i_3, i_4, i_5, i_6, i_7, i_8, i_9, i_10, i_11, i_12, i_13, i_16, i_19, i_20, i_21, i_22, i_23, i_24, i_25, i_30, i_31, i_32, i_39, i_40, i_41, i_42, i_43, i_44, i_45, i_47, i_48, i_49, i_50, i_51, i_52, i_57, i_59, i_60, i_61, i_62, i_63, i_64, i_71, i_72, i_80, i_91, i_93, i_97, i_99, i_100, i_122, i_227, i_228, i_232, i_251, i_255, i_256, i_463, i_999, i_1000, i_1519, i_1600, i_9999, i_100000000, i_2147483639, i_2147483647, neg_nI1, nI_add, pk_mul, nI_remL, pk_sub, pk_div, nI_clamp, nI_leI, nI_ltI, nI_eq, vpT, nI_m1, m1_nI, nI_lem1, m1_le, m1_lt, nI_ltm1, nI_bit, nI_shl, nI_xor, nI_or, n_rem, forall_eq, true_and, and_true, implies_true, true_implies, false_implies, not_true_eq_false, not_false_eq_true, Nat.zero_add, Nat.add_zero, ite_true, ite_false, if_true, if_false, true_or, or_true, false_or, or_false, and_self, and_false, false_and, Nat.reduceEqDiff, reduceIte]
          refine ⟨fun z => ih (p + 1) σ6 (by omega) (by omega) hT6 e6 hS6 ?_ hW6, fun z => ih (p + 1) _ (by omega) (by omega) ?_ e6 (hS6.eqv (by rw [fI_sI]; simp)) ?_ hW6⟩
          · have hno : setOf (whoOK (wP Z) (wS Z) (wR Z) t) (p + 1) = setOf (whoOK (wP Z) (wS Z) (wR Z) t) p := if_neg (fun w => by have := hff.mpr w; omega)
            rw [hno]; exact f6
          · exact ⟨hT6.1.trans (Fm.sI σ6 _ (by decide)), by rw [fI_sI]; simpa using hT6.2.1, by rw [fI_sI]; simpa using hT6.2.2.1, hT6.2.2.2.1, hT6.2.2.2.2⟩
          · rw [fI_sI, if_pos ⟨rfl, rfl⟩]
            congr 1
            have hw := hff.mp (by omega)
            show _ = if _ then _ else _
            rw [if_pos hw]
        | succ j ihd =>
          intro d f σ5 hj hd hf hT5 hN5 hS5 g74 hW5 hc5 hff
          have hP5 := hT5.p hP0 (by decide) (by decide)
          have hzd : zD (zDs (wP Z) 0 d (zAs (wP Z) 0 (wS Z) p t)) = zD (wS Z) + d := by
            rw [(zDs_ok hP.1 d 0 _ (zAs_ok h6.1 0 p t) (by rw [zAs_D]; omega)).2, zAs_D]
          have copy : ∀ f', f' < 2 → (f' = 1 ↔ (List.range (d + 1)).all (fun d => seenD (zDs (wP Z) 0 d (zAs (wP Z) 0 (wS Z) p t)) (wR Z) d) = true) → mw_laysWho_60 X Y (nI t) (nI p) (nI f') (nI d) (nI 0) σ5 Q := by
            intro f' hf' hff'
            unfold mw_laysWho_60
            intro V hV
            have cells : ∀ i c (σ6 : FS), 49 - c = i → c ≤ 49 → Fm [] [73] [] σ5 σ6 → (∀ c', c' < c → fA σ6 73 (1519 * p + 49 * d + c') = fA σ5 52 (1 + c')) → (∀ x, (x < 1519 * p + 49 * d ∨ 1519 * p + 49 * d + 49 ≤ x) → fA σ6 73 x = fA σ5 73 x) → V (nI t) (nI p) (nI f') (nI d) (nI c) σ6 := by
              intro i
              induction i with
              | zero =>
                intro c σ6 hi hc hF6 hcc ho
                refine hV _ _ _ _ _ _ ?_
                rw [i_49]
                refine ⟨fun _ => ?_, fun z => absurd ((nI_leI (by omega) (by omega)).mpr (by omega)) z⟩
                have hT6 := hT5.arr hF6 (by decide) (by decide) (by decide)
                have hN6 : mN σ6 (wP Z) (zDs (wP Z) 0 d (zAs (wP Z) 0 (wS Z) p t)) := hN5.eqv (hF6.2.1 52 (by decide))
                have hP6 := hT6.p hP0 (by decide) (by decide)
                refine ml_dayGoes (th := 1) (sil := 0) hP6 hN6 (hS5.eqv (hF6.1 56 (by decide))) (by omega) hT6.2.1 (by decide) hT6.2.2.1 (by decide) (fun z => by omega) (fun σ7 hF7 hN7 hS7 _ => ?_)
                rw [nI_1]
                have e7 : fA σ7 73 = fA σ6 73 := hF7.2.1 73 (by decide)
                refine ihd (d + 1) f' σ7 (by omega) (by omega) hf' (hT6.step hF7 (hN7.2.2 (by decide))) ?_ hS7 ?_ ?_ ?_ hff'
                · rw [zDs_add]; exact hN7.1
                · rw [hF7.1 74 (by decide), hF6.1 74 (by decide)]; exact g74
                · intro p' d' c' a b e
                  have := c7_lt hP.1 e
                  rw [e7, ho _ (by omega)]; exact hW5 p' d' c' a b e
                · intro d' c' a e
                  have h49 := c7_lt hP.1 e
                  rw [e7]
                  rcases Nat.lt_or_ge d' d with w | w
                  · rw [ho _ (by omega)]; exact hc5 d' c' w e
                  · have : d' = d := by omega
                    subst this
                    rw [hcc _ (by omega)]; exact hN5.2.2.1 c' e
              | succ i ihc =>
                intro c σ6 hi hc hF6 hcc ho
                refine hV _ _ _ _ _ _ ?_
                unfold mw_heightOf
                simp (disch := omega) only [i_0, i_1, i_2, i_3, i_4, i_5, i_6, i_7, i_8, i_9, i_10, i_11, i_12, i_13, i_16, i_19, i_20, i_21, i_22, i_23, i_24, i_25, i_30, i_31, i_32, i_39, i_40, i_41, i_42, i_43, i_44, i_45, i_47, i_48, i_49, i_50, i_51, i_52, i_57, i_59, i_60, i_61, i_62, i_63, i_64, i_71, i_72, i_80, i_91, i_93, i_97, i_99, i_100, i_122, i_227, i_228, i_232, i_251, i_255, i_256, i_463, i_999, i_1000, i_1519, i_1600, i_9999, i_100000000, i_2147483639, i_2147483647, neg_nI1, nI_add, pk_mul, nI_remL, pk_sub, pk_div, nI_clamp, nI_leI, nI_ltI, nI_eq, vpT, nI_m1, m1_nI, nI_lem1, m1_le, m1_lt, nI_ltm1, nI_bit, nI_shl, nI_xor, nI_or, n_rem, forall_eq, true_and, and_true, implies_true, true_implies, false_implies, not_true_eq_false, not_false_eq_true, Nat.zero_add, Nat.add_zero, ite_true, ite_false, if_true, if_false, true_or, or_true, false_or, or_false, and_self, and_false, false_and, Nat.reduceEqDiff, reduceIte]
                refine ⟨fun z => by omega, fun _ => ihc (c + 1) _ (by omega) (by omega) (hF6.trans (Fm.sA σ6 _ _ (by decide))) (fun c' hc' => ?_) (fun x hx => ?_)⟩
                · rw [fA_sA]
                  by_cases w : c' = c
                  · subst w; rw [if_pos ⟨rfl, rfl⟩, hF6.2.1 52 (by decide)]
                  · rw [if_neg (by omega)]; exact hcc c' (by omega)
                · rw [fA_sA, if_neg (by omega)]; exact ho x hx
            exact cells _ 0 σ5 rfl (by omega) (Fm.refl _ _ _ _) (fun c' hc' => by omega) (fun x _ => rfl)
          refine hY _ _ _ _ _ ?_
          unfold mw_laysWho_55 mw_laysWho_56
          simp (disch := omega) only [i_0, i_1, i_2, i_3, i_4, i_5, i_6, i_7, i_8, i_9, i_10, i_11, i_12, i_13, i_16, i_19, i_20, i_21, i_22, i_23, i_24, i_25, i_30, i_31, i_32, i_39, i_40, i_41, i_42, i_43, i_44, i_45, i_47, i_48, i_49, i_50, i_51, i_52, i_57, i_59, i_60, i_61, i_62, i_63, i_64, i_71, i_72, i_80, i_91, i_93, i_97, i_99, i_100, i_122, i_227, i_228, i_232, i_251, i_255, i_256, i_463, i_999, i_1000, i_1519, i_1600, i_9999, i_100000000, i_2147483639, i_2147483647, neg_nI1, nI_add, pk_mul, nI_remL, pk_sub, pk_div, nI_clamp, nI_leI, nI_ltI, nI_eq, vpT, nI_m1, m1_nI, nI_lem1, m1_le, m1_lt, nI_ltm1, nI_bit, nI_shl, nI_xor, nI_or, n_rem, forall_eq, true_and, and_true, implies_true, true_implies, false_implies, not_true_eq_false, not_false_eq_true, Nat.zero_add, Nat.add_zero, ite_true, ite_false, if_true, if_false, true_or, or_true, false_or, or_false, and_self, and_false, false_and, Nat.reduceEqDiff, reduceIte]
          refine ⟨fun z => by omega, fun _ => ⟨fun z => ?_, fun z => ?_⟩⟩
          · refine copy 0 (by decide) ⟨fun w => by omega, fun w => ?_⟩
            rw [all_range_succ, Bool.and_eq_true] at w
            have := hff.mpr w.1; omega
          · refine ml_isAsSeen h1 hP5 hN5 (rwf σ5 hT5) (by omega) ?_
            have hall := hff.mp (by omega)
            by_cases w : seenD (zDs (wP Z) 0 d (zAs (wP Z) 0 (wS Z) p t)) (wR Z) d = true
            · rw [if_pos w]
              simp (disch := omega) only [i_0, i_1, i_2, i_3, i_4, i_5, i_6, i_7, i_8, i_9, i_10, i_11, i_12, i_13, i_16, i_19, i_20, i_21, i_22, i_23, i_24, i_25, i_30, i_31, i_32, i_39, i_40, i_41, i_42, i_43, i_44, i_45, i_47, i_48, i_49, i_50, i_51, i_52, i_57, i_59, i_60, i_61, i_62, i_63, i_64, i_71, i_72, i_80, i_91, i_93, i_97, i_99, i_100, i_122, i_227, i_228, i_232, i_251, i_255, i_256, i_463, i_999, i_1000, i_1519, i_1600, i_9999, i_100000000, i_2147483639, i_2147483647, neg_nI1, nI_add, pk_mul, nI_remL, pk_sub, pk_div, nI_clamp, nI_leI, nI_ltI, nI_eq, vpT, nI_m1, m1_nI, nI_lem1, m1_le, m1_lt, nI_ltm1, nI_bit, nI_shl, nI_xor, nI_or, n_rem, forall_eq, true_and, and_true, implies_true, true_implies, false_implies, not_true_eq_false, not_false_eq_true, Nat.zero_add, Nat.add_zero, ite_true, ite_false, if_true, if_false, true_or, or_true, false_or, or_false, and_self, and_false, false_and, Nat.reduceEqDiff, reduceIte]
              refine copy 1 (by decide) ⟨fun _ => ?_, fun _ => rfl⟩
              rw [all_range_succ, hall, w]; rfl
            · rw [if_neg w]
              simp (disch := omega) only [i_0, i_1, i_2, i_3, i_4, i_5, i_6, i_7, i_8, i_9, i_10, i_11, i_12, i_13, i_16, i_19, i_20, i_21, i_22, i_23, i_24, i_25, i_30, i_31, i_32, i_39, i_40, i_41, i_42, i_43, i_44, i_45, i_47, i_48, i_49, i_50, i_51, i_52, i_57, i_59, i_60, i_61, i_62, i_63, i_64, i_71, i_72, i_80, i_91, i_93, i_97, i_99, i_100, i_122, i_227, i_228, i_232, i_251, i_255, i_256, i_463, i_999, i_1000, i_1519, i_1600, i_9999, i_100000000, i_2147483639, i_2147483647, neg_nI1, nI_add, pk_mul, nI_remL, pk_sub, pk_div, nI_clamp, nI_leI, nI_ltI, nI_eq, vpT, nI_m1, m1_nI, nI_lem1, m1_le, m1_lt, nI_ltm1, nI_bit, nI_shl, nI_xor, nI_or, n_rem, forall_eq, true_and, and_true, implies_true, true_implies, false_implies, not_true_eq_false, not_false_eq_true, Nat.zero_add, Nat.add_zero, ite_true, ite_false, if_true, if_false, true_or, or_true, false_or, or_false, and_self, and_false, false_and, Nat.reduceEqDiff, reduceIte]
              refine copy 0 (by decide) ⟨fun w => by omega, fun q => ?_⟩
              rw [all_range_succ, Bool.and_eq_true] at q
              exact absurd q.2 w
      refine days _ 0 1 σ4 rfl (by omega) (by decide) hT4 hN4.1 hS4 (by rw [hF4.1 74 (by decide)]; exact e74) (fun p' d' c' a b e => by rw [hF4.2.1 73 (by decide)]; exact hW p' d' c' a b e) (fun d' c' a => by omega) ⟨fun _ => by simp, fun _ => rfl⟩
  exact key _ 0 σ2 rfl (by omega) hT2 e52 hS2 (by rw [hF2.1 74 (by decide)]; exact e74) (fun p d c a => by omega)
theorem mq_who {σ : FS} {Z : Wd} {x : Int32} {Q : Int32 → FS → Prop} (h : mAll σ Z) (hQ : ∀ σ', mAll σ' Z → Q (opWho Z x) σ') : mw_who x σ Q := by
  unfold mw_who
  unfold opWho at hQ
  refine ml_isTopic h.2.2.2.2.1.pc h.1.np.2.1 (fun t a b c => ?_) (fun a => ?_)
  · subst c
    simp only [a] at hQ
    simp (disch := omega) only [i_0, i_1, i_2, i_3, i_4, i_5, i_6, i_7, i_8, i_9, i_10, i_11, i_12, i_13, i_16, i_19, i_20, i_21, i_22, i_23, i_24, i_25, i_30, i_31, i_32, i_39, i_40, i_41, i_42, i_43, i_44, i_45, i_47, i_48, i_49, i_50, i_51, i_52, i_57, i_59, i_60, i_61, i_62, i_63, i_64, i_71, i_72, i_80, i_91, i_93, i_97, i_99, i_100, i_122, i_227, i_228, i_232, i_251, i_255, i_256, i_463, i_999, i_1000, i_1519, i_1600, i_9999, i_100000000, i_2147483639, i_2147483647, neg_nI1, nI_add, pk_mul, nI_remL, pk_sub, pk_div, nI_clamp, nI_leI, nI_ltI, nI_eq, vpT, nI_m1, m1_nI, nI_lem1, m1_le, m1_lt, nI_ltm1, nI_bit, nI_shl, nI_xor, nI_or, n_rem, forall_eq, true_and, and_true, implies_true, true_implies, false_implies, not_true_eq_false, not_false_eq_true, Nat.zero_add, Nat.add_zero, ite_true, ite_false, if_true, if_false, true_or, or_true, false_or, or_false, and_self, and_false, false_and, Nat.reduceEqDiff, reduceIte]
    refine ml_laysWho h b (fun σ' hA' e74 _ => ?_)
    rw [e74]
    exact hQ σ' hA'
  · simp only [a] at hQ
    simp (disch := omega) only [i_0, i_1, i_2, i_3, i_4, i_5, i_6, i_7, i_8, i_9, i_10, i_11, i_12, i_13, i_16, i_19, i_20, i_21, i_22, i_23, i_24, i_25, i_30, i_31, i_32, i_39, i_40, i_41, i_42, i_43, i_44, i_45, i_47, i_48, i_49, i_50, i_51, i_52, i_57, i_59, i_60, i_61, i_62, i_63, i_64, i_71, i_72, i_80, i_91, i_93, i_97, i_99, i_100, i_122, i_227, i_228, i_232, i_251, i_255, i_256, i_463, i_999, i_1000, i_1519, i_1600, i_9999, i_100000000, i_2147483639, i_2147483647, neg_nI1, nI_add, pk_mul, nI_remL, pk_sub, pk_div, nI_clamp, nI_leI, nI_ltI, nI_eq, vpT, nI_m1, m1_nI, nI_lem1, m1_le, m1_lt, nI_ltm1, nI_bit, nI_shl, nI_xor, nI_or, n_rem, forall_eq, true_and, and_true, implies_true, true_implies, false_implies, not_true_eq_false, not_false_eq_true, Nat.zero_add, Nat.add_zero, ite_true, ite_false, if_true, if_false, true_or, or_true, false_or, or_false, and_self, and_false, false_and, Nat.reduceEqDiff, reduceIte]
    exact hQ σ h
/-! who tells most -/
def cntS (n set : Nat) (v : Nat → Nat) (x : Nat) : Nat := (List.range n).foldl (fun k b => if set / 2 ^ b % 2 = 1 ∧ x = v b then k + 1 else k) 0
def mostS (n set : Nat) (v : Nat → Nat) : Nat := (List.range n).foldl (fun m a => if set / 2 ^ a % 2 = 1 then (if m < cntS n set v (v a) then cntS n set v (v a) else m) else m) 0
theorem cnt_le {n set : Nat} {v : Nat → Nat} {x : Nat} : ∀ (l : List Nat) (k : Nat), l.foldl (fun k b => if set / 2 ^ b % 2 = 1 ∧ x = v b then k + 1 else k) k ≤ k + l.length
  | [], k => by simp
  | b :: l, k => by
    rw [List.foldl_cons]
    have h := cnt_le (n := n) (set := set) (v := v) (x := x) l (if set / 2 ^ b % 2 = 1 ∧ x = v b then k + 1 else k)
    simp only [List.length_cons]
    split at h <;> split <;> simp_all <;> omega
theorem cntS_le (n set : Nat) (v : Nat → Nat) (x : Nat) : cntS n set v x ≤ n := by
  have := cnt_le (n := n) (set := set) (v := v) (x := x) (List.range n) 0
  unfold cntS
  simpa using this
theorem most_le {n set : Nat} {v : Nat → Nat} : ∀ (l : List Nat) (m : Nat), m ≤ n → l.foldl (fun m a => if set / 2 ^ a % 2 = 1 then (if m < cntS n set v (v a) then cntS n set v (v a) else m) else m) m ≤ n
  | [], m, h => h
  | a :: l, m, h => by
    rw [List.foldl_cons]
    refine most_le l _ ?_
    split
    · split
      · exact cntS_le _ _ _ _
      · exact h
    · exact h
theorem mostS_le (n set : Nat) (v : Nat → Nat) : mostS n set v ≤ n := most_le _ 0 (by omega)
def vS (P : Pl) (s : St) (t d c p : Nat) : Nat := zH (zDs P 0 d (zAs P 0 s p t)) c
theorem ml_mostAlike {σ : FS} {P : Pl} {s : St} {t d c set : Nat} {Q : Int32 → FS → Prop} (hP : mP σ P) (hs : stOK P s) (hz : zD s ≤ 999) (hW : mWy σ P s t (nP P)) (h74 : fI σ 0 74 = nI set) (hset : set < 128) (hd : d ≤ 30) (hc : isC P c) (hQ : Q (nI (mostS (nP P) set (vS P s t d c))) σ) : mw_mostAlike (nI (49 * d + c7 c)) σ Q := by
  have h7 := hP.1.2.2.2.2.1
  have h49 := c7_lt hP.1 hc
  have hv : ∀ p, p < nP P → vS P s t d c p ≤ 99 := fun p hp => (zDs_ok hP.1 d 0 _ (zAs_ok hs 0 p t) (by rw [zAs_D]; omega)).1.2.1 c hc
  have hw : ∀ p, p < nP P → fA σ 73 (1519 * p + (49 * d + c7 c)) = nI (vS P s t d c p) := fun p hp => by
    rw [← Nat.add_assoc]; exact hW p d c hp hd hc
  have b2 : ∀ i, set / 2 ^ i % 2 < 2 := fun i => Nat.mod_lt _ (by decide)
  unfold mw_mostAlike mw_mostAlike_4
  intro X hX
  have key : ∀ j a m, nP P - a = j → a ≤ nP P → m ≤ nP P → ((List.range (nP P)).drop a).foldl (fun m a => if set / 2 ^ a % 2 = 1 then (if m < cntS (nP P) set (vS P s t d c) (vS P s t d c a) then cntS (nP P) set (vS P s t d c) (vS P s t d c a) else m) else m) m = mostS (nP P) set (vS P s t d c) → X (nI (49 * d + c7 c)) (nI m) (nI a) σ := by
    intro j
    induction j with
    | zero =>
      intro a m hj ha hm he
      refine hX _ _ _ _ (ml_personMany hP ⟨fun _ => ?_, fun z => absurd ((nI_leI (by omega) (by omega)).mpr (by omega)) z⟩)
      rw [rng_end (by omega), List.foldl_nil] at he
      rw [← he] at hQ
      exact hQ
    | succ j ih =>
      intro a m hj ha hm he
      have haa : a < nP P := by omega
      have hb := b2 a
      rw [rng_at haa, List.foldl_cons] at he
      refine hX _ _ _ _ (ml_personMany hP ⟨fun z => absurd ((nI_leI (by omega) (by omega)).mp z) (by omega), fun _ => ?_⟩)
      rw [h74]
      unfold mw_mostAlike_100
      simp (disch := omega) only [i_0, i_1, i_2, i_3, i_4, i_5, i_6, i_7, i_8, i_9, i_10, i_11, i_12, i_13, i_16, i_19, i_20, i_21, i_22, i_23, i_24, i_25, i_30, i_31, i_32, i_39, i_40, i_41, i_42, i_43, i_44, i_45, i_47, i_48, i_49, i_50, i_51, i_52, i_57, i_59, i_60, i_61, i_62, i_63, i_64, i_71, i_72, i_80, i_91, i_93, i_97, i_99, i_100, i_122, i_227, i_228, i_232, i_251, i_255, i_256, i_463, i_999, i_1000, i_1519, i_1600, i_9999, i_100000000, i_2147483639, i_2147483647, neg_nI1, nI_add, pk_mul, nI_remL, pk_sub, pk_div, nI_clamp, nI_leI, nI_ltI, nI_eq, vpT, nI_m1, m1_nI, nI_lem1, m1_le, m1_lt, nI_ltm1, nI_bit, nI_shl, nI_xor, nI_or, n_rem, forall_eq, true_and, and_true, implies_true, true_implies, false_implies, not_true_eq_false, not_false_eq_true, Nat.zero_add, Nat.add_zero, ite_true, ite_false, if_true, if_false, true_or, or_true, false_or, or_false, and_self, and_false, false_and, Nat.reduceEqDiff, reduceIte]
      refine ⟨fun z => ?_, fun z => ?_⟩
      · rw [if_pos (by omega)] at he
        unfold mw_mostAlike_32
        intro Y hY
        have inner : ∀ j2 b k, nP P - b = j2 → b ≤ nP P → k ≤ b → ((List.range (nP P)).drop b).foldl (fun k b => if set / 2 ^ b % 2 = 1 ∧ vS P s t d c a = vS P s t d c b then k + 1 else k) k = cntS (nP P) set (vS P s t d c) (vS P s t d c a) → Y (nI (49 * d + c7 c)) (nI m) (nI a) (nI k) (nI b) σ := by
          intro j2
          induction j2 with
          | zero =>
            intro b k hj2 hbb hk he2
            rw [rng_end (by omega), List.foldl_nil] at he2
            refine hY _ _ _ _ _ _ (ml_personMany hP ⟨fun _ => ?_, fun z => absurd ((nI_leI (by omega) (by omega)).mpr (by omega)) z⟩)
            unfold mw_mostAlike_100
            rw [← he2] at he
            simp (disch := omega) only [i_0, i_1, i_2, i_3, i_4, i_5, i_6, i_7, i_8, i_9, i_10, i_11, i_12, i_13, i_16, i_19, i_20, i_21, i_22, i_23, i_24, i_25, i_30, i_31, i_32, i_39, i_40, i_41, i_42, i_43, i_44, i_45, i_47, i_48, i_49, i_50, i_51, i_52, i_57, i_59, i_60, i_61, i_62, i_63, i_64, i_71, i_72, i_80, i_91, i_93, i_97, i_99, i_100, i_122, i_227, i_228, i_232, i_251, i_255, i_256, i_463, i_999, i_1000, i_1519, i_1600, i_9999, i_100000000, i_2147483639, i_2147483647, neg_nI1, nI_add, pk_mul, nI_remL, pk_sub, pk_div, nI_clamp, nI_leI, nI_ltI, nI_eq, vpT, nI_m1, m1_nI, nI_lem1, m1_le, m1_lt, nI_ltm1, nI_bit, nI_shl, nI_xor, nI_or, n_rem, forall_eq, true_and, and_true, implies_true, true_implies, false_implies, not_true_eq_false, not_false_eq_true, Nat.zero_add, Nat.add_zero, ite_true, ite_false, if_true, if_false, true_or, or_true, false_or, or_false, and_self, and_false, false_and, Nat.reduceEqDiff, reduceIte]
            refine ⟨fun z => ih (a + 1) m (by omega) (by omega) hm ?_, fun z => ih (a + 1) k (by omega) (by omega) (by omega) ?_⟩
            · rw [if_neg (by omega)] at he; exact he
            · rw [if_pos (by omega)] at he; exact he
          | succ j2 ih2 =>
            intro b k hj2 hbb hk he2
            have hb1 : b < nP P := by omega
            have hb3 := b2 b
            have hva := hv a haa; have hvb := hv b hb1
            rw [rng_at hb1, List.foldl_cons] at he2
            refine hY _ _ _ _ _ _ (ml_personMany hP ⟨fun z => absurd ((nI_leI (by omega) (by omega)).mp z) (by omega), fun _ => ?_⟩)
            rw [h74]
            unfold mw_mostAlike_85
            simp (disch := omega) only [i_0, i_1, i_2, i_3, i_4, i_5, i_6, i_7, i_8, i_9, i_10, i_11, i_12, i_13, i_16, i_19, i_20, i_21, i_22, i_23, i_24, i_25, i_30, i_31, i_32, i_39, i_40, i_41, i_42, i_43, i_44, i_45, i_47, i_48, i_49, i_50, i_51, i_52, i_57, i_59, i_60, i_61, i_62, i_63, i_64, i_71, i_72, i_80, i_91, i_93, i_97, i_99, i_100, i_122, i_227, i_228, i_232, i_251, i_255, i_256, i_463, i_999, i_1000, i_1519, i_1600, i_9999, i_100000000, i_2147483639, i_2147483647, neg_nI1, nI_add, pk_mul, nI_remL, pk_sub, pk_div, nI_clamp, nI_leI, nI_ltI, nI_eq, vpT, nI_m1, m1_nI, nI_lem1, m1_le, m1_lt, nI_ltm1, nI_bit, nI_shl, nI_xor, nI_or, n_rem, forall_eq, true_and, and_true, implies_true, true_implies, false_implies, not_true_eq_false, not_false_eq_true, Nat.zero_add, Nat.add_zero, ite_true, ite_false, if_true, if_false, true_or, or_true, false_or, or_false, and_self, and_false, false_and, Nat.reduceEqDiff, reduceIte]
            rw [hw a haa, hw b hb1]
            simp (disch := omega) only [i_0, i_1, i_2, i_3, i_4, i_5, i_6, i_7, i_8, i_9, i_10, i_11, i_12, i_13, i_16, i_19, i_20, i_21, i_22, i_23, i_24, i_25, i_30, i_31, i_32, i_39, i_40, i_41, i_42, i_43, i_44, i_45, i_47, i_48, i_49, i_50, i_51, i_52, i_57, i_59, i_60, i_61, i_62, i_63, i_64, i_71, i_72, i_80, i_91, i_93, i_97, i_99, i_100, i_122, i_227, i_228, i_232, i_251, i_255, i_256, i_463, i_999, i_1000, i_1519, i_1600, i_9999, i_100000000, i_2147483639, i_2147483647, neg_nI1, nI_add, pk_mul, nI_remL, pk_sub, pk_div, nI_clamp, nI_leI, nI_ltI, nI_eq, vpT, nI_m1, m1_nI, nI_lem1, m1_le, m1_lt, nI_ltm1, nI_bit, nI_shl, nI_xor, nI_or, n_rem, forall_eq, true_and, and_true, implies_true, true_implies, false_implies, not_true_eq_false, not_false_eq_true, Nat.zero_add, Nat.add_zero, ite_true, ite_false, if_true, if_false, true_or, or_true, false_or, or_false, and_self, and_false, false_and, Nat.reduceEqDiff, reduceIte]
            refine ⟨fun z => ih2 (b + 1) k (by omega) (by omega) (by omega) ?_, fun z => ⟨fun z2 => ih2 (b + 1) k (by omega) (by omega) (by omega) ?_, fun z2 => ih2 (b + 1) (k + 1) (by omega) (by omega) (by omega) ?_⟩⟩
            · rw [if_neg (fun q => z q.1)] at he2; exact he2
            · rw [if_neg (fun q => z2 q.2)] at he2; exact he2
            · rw [if_pos ⟨z, z2⟩] at he2; exact he2
        exact inner _ 0 0 rfl (by omega) (by omega) rfl
      · rw [if_neg (by omega)] at he
        exact ih (a + 1) m (by omega) (by omega) hm he
  exact key _ 0 0 rfl (by omega) (by omega) rfl
/-- the best so far: day, cell, how many -/
def tlB (P : Pl) (s : St) (t set d : Nat) (b : Option (Nat × Nat × Nat)) (c : Nat) : Option (Nat × Nat × Nat) := match b with
  | none => some (d, c, mostS (nP P) set (vS P s t d c))
  | some r => if mostS (nP P) set (vS P s t d c) < r.2.2 then some (d, c, mostS (nP P) set (vS P s t d c)) else some r
def tlS (P : Pl) (s : St) (t set : Nat) : Option (Nat × Nat × Nat) := (List.range (min 31 (1000 - zD s))).foldl (fun b d => (cls P).foldl (tlB P s t set d) b) none
def opTells (Z : Wd) (x y : Int32) : Int32 := match ix x (nT (wP Z)), ix y 3 with
  | some t, some w => if setOf (whoOK (wP Z) (wS Z) (wR Z) t) (nP (wP Z)) = 0 then M1 else match tlS (wP Z) (wS Z) t (setOf (whoOK (wP Z) (wS Z) (wR Z) t) (nP (wP Z))) with
    | some r => if w = 0 then nI r.1 else if w = 1 then nI r.2.1 else nI r.2.2
    | none => M1
  | _, _ => M1
def tlI (b : Option (Nat × Nat × Nat)) (x3 x4 x5 : Int32) : Prop := match b with
  | none => x3 = M1
  | some r => x3 = nI r.1 ∧ x4 = nI (c7 r.2.1) ∧ x5 = nI r.2.2
def tlK (P : Pl) (b : Option (Nat × Nat × Nat)) : Prop := ∀ r, b = some r → r.1 ≤ 30 ∧ isC P r.2.1 ∧ r.2.2 ≤ 7
theorem mq_tells {σ : FS} {Z : Wd} {x y : Int32} {Q : Int32 → FS → Prop} (h : mAll σ Z) (hQ : ∀ σ', mAll σ' Z → Q (opTells Z x y) σ') : mw_tells x y σ Q := by
  unfold mw_tells
  unfold opTells at hQ
  have hnp := h.1.np
  refine ml_isTopic h.2.2.2.2.1.pc h.1.np.2.1 (fun t a b c => ?_) (fun a => ?_)
  · subst c
    simp (disch := omega) only [i_0, i_1, i_2, i_3, i_4, i_5, i_6, i_7, i_8, i_9, i_10, i_11, i_12, i_13, i_16, i_19, i_20, i_21, i_22, i_23, i_24, i_25, i_30, i_31, i_32, i_39, i_40, i_41, i_42, i_43, i_44, i_45, i_47, i_48, i_49, i_50, i_51, i_52, i_57, i_59, i_60, i_61, i_62, i_63, i_64, i_71, i_72, i_80, i_91, i_93, i_97, i_99, i_100, i_122, i_227, i_228, i_232, i_251, i_255, i_256, i_463, i_999, i_1000, i_1519, i_1600, i_9999, i_100000000, i_2147483639, i_2147483647, neg_nI1, nI_add, pk_mul, nI_remL, pk_sub, pk_div, nI_clamp, nI_leI, nI_ltI, nI_eq, vpT, nI_m1, m1_nI, nI_lem1, m1_le, m1_lt, nI_ltm1, nI_bit, nI_shl, nI_xor, nI_or, n_rem, forall_eq, true_and, and_true, implies_true, true_implies, false_implies, not_true_eq_false, not_false_eq_true, Nat.zero_add, Nat.add_zero, ite_true, ite_false, if_true, if_false, true_or, or_true, false_or, or_false, and_self, and_false, false_and, Nat.reduceEqDiff, reduceIte]
    refine ml_isIn (n := 3) (by decide) (by decide) (fun w a1 b1 c1 => ?_) (fun a1 => ?_)
    · subst c1
      simp only [a, a1] at hQ
      simp (disch := omega) only [i_0, i_1, i_2, i_3, i_4, i_5, i_6, i_7, i_8, i_9, i_10, i_11, i_12, i_13, i_16, i_19, i_20, i_21, i_22, i_23, i_24, i_25, i_30, i_31, i_32, i_39, i_40, i_41, i_42, i_43, i_44, i_45, i_47, i_48, i_49, i_50, i_51, i_52, i_57, i_59, i_60, i_61, i_62, i_63, i_64, i_71, i_72, i_80, i_91, i_93, i_97, i_99, i_100, i_122, i_227, i_228, i_232, i_251, i_255, i_256, i_463, i_999, i_1000, i_1519, i_1600, i_9999, i_100000000, i_2147483639, i_2147483647, neg_nI1, nI_add, pk_mul, nI_remL, pk_sub, pk_div, nI_clamp, nI_leI, nI_ltI, nI_eq, vpT, nI_m1, m1_nI, nI_lem1, m1_le, m1_lt, nI_ltm1, nI_bit, nI_shl, nI_xor, nI_or, n_rem, forall_eq, true_and, and_true, implies_true, true_implies, false_implies, not_true_eq_false, not_false_eq_true, Nat.zero_add, Nat.add_zero, ite_true, ite_false, if_true, if_false, true_or, or_true, false_or, or_false, and_self, and_false, false_and, Nat.reduceEqDiff, reduceIte]
      refine ml_laysWho h b (fun σ' hA' e74 hW => ?_)
      have hQ' := hQ σ' hA'
      have hP : mP σ' (wP Z) := hA'.2.2.2.2.1.p (Or.inr (Or.inr (by omega)))
      have hN := hA'.2.2.2.2.2.1
      have hz := h.1.2.2.1
      have hset : setOf (whoOK (wP Z) (wS Z) (wR Z) t) (nP (wP Z)) < 128 := Nat.lt_of_lt_of_le (setOf_lt _ _) (p2_le hnp.1)
      have h2 := cr_le hP.1
      generalize hsv : setOf (whoOK (wP Z) (wS Z) (wR Z) t) (nP (wP Z)) = set at e74 hQ' hset
      unfold mw_tells_39
      intro X hX
      have fin : ∀ (b : Option (Nat × Nat × Nat)) (x3 x4 x5 : Int32), tlI b x3 x4 x5 → tlK (wP Z) b → Q (match b with | some r => if w = 0 then nI r.1 else if w = 1 then nI r.2.1 else nI r.2.2 | none => M1) σ' → mw_tells_130 (nI w) x3 x4 x5 σ' Q := by
        intro b x3 x4 x5 hi hk hq
        unfold mw_tells_130
        cases b with
        | none =>
          have hi : x3 = M1 := hi
          subst hi
          simp (disch := omega) only [i_0, i_1, i_2, i_3, i_4, i_5, i_6, i_7, i_8, i_9, i_10, i_11, i_12, i_13, i_16, i_19, i_20, i_21, i_22, i_23, i_24, i_25, i_30, i_31, i_32, i_39, i_40, i_41, i_42, i_43, i_44, i_45, i_47, i_48, i_49, i_50, i_51, i_52, i_57, i_59, i_60, i_61, i_62, i_63, i_64, i_71, i_72, i_80, i_91, i_93, i_97, i_99, i_100, i_122, i_227, i_228, i_232, i_251, i_255, i_256, i_463, i_999, i_1000, i_1519, i_1600, i_9999, i_100000000, i_2147483639, i_2147483647, neg_nI1, nI_add, pk_mul, nI_remL, pk_sub, pk_div, nI_clamp, nI_leI, nI_ltI, nI_eq, vpT, nI_m1, m1_nI, nI_lem1, m1_le, m1_lt, nI_ltm1, nI_bit, nI_shl, nI_xor, nI_or, n_rem, forall_eq, true_and, and_true, implies_true, true_implies, false_implies, not_true_eq_false, not_false_eq_true, Nat.zero_add, Nat.add_zero, ite_true, ite_false, if_true, if_false, true_or, or_true, false_or, or_false, and_self, and_false, false_and, Nat.reduceEqDiff, reduceIte]
          exact hq
        | some r =>
          obtain ⟨e3, e4, e5⟩ := (show x3 = nI r.1 ∧ x4 = nI (c7 r.2.1) ∧ x5 = nI r.2.2 from hi)
          obtain ⟨k1, k2, k3⟩ := hk r rfl
          have h49 := c7_lt hP.1 k2
          have hl := isC_lt hP.1 k2
          subst e3 e4 e5
          simp only [] at hq
          simp (disch := omega) only [i_0, i_1, i_2, i_3, i_4, i_5, i_6, i_7, i_8, i_9, i_10, i_11, i_12, i_13, i_16, i_19, i_20, i_21, i_22, i_23, i_24, i_25, i_30, i_31, i_32, i_39, i_40, i_41, i_42, i_43, i_44, i_45, i_47, i_48, i_49, i_50, i_51, i_52, i_57, i_59, i_60, i_61, i_62, i_63, i_64, i_71, i_72, i_80, i_91, i_93, i_97, i_99, i_100, i_122, i_227, i_228, i_232, i_251, i_255, i_256, i_463, i_999, i_1000, i_1519, i_1600, i_9999, i_100000000, i_2147483639, i_2147483647, neg_nI1, nI_add, pk_mul, nI_remL, pk_sub, pk_div, nI_clamp, nI_leI, nI_ltI, nI_eq, vpT, nI_m1, m1_nI, nI_lem1, m1_le, m1_lt, nI_ltm1, nI_bit, nI_shl, nI_xor, nI_or, n_rem, forall_eq, true_and, and_true, implies_true, true_implies, false_implies, not_true_eq_false, not_false_eq_true, Nat.zero_add, Nat.add_zero, ite_true, ite_false, if_true, if_false, true_or, or_true, false_or, or_false, and_self, and_false, false_and, Nat.reduceEqDiff, reduceIte]
          refine ⟨fun z => ⟨fun z2 => ?_, fun z2 => ?_⟩, fun z => ?_⟩
          · rw [if_neg z, if_neg z2] at hq; exact hq
          · rw [if_neg z, if_pos z2] at hq
            unfold mw_numberOf
            simp (disch := omega) only [i_0, i_1, i_2, i_3, i_4, i_5, i_6, i_7, i_8, i_9, i_10, i_11, i_12, i_13, i_16, i_19, i_20, i_21, i_22, i_23, i_24, i_25, i_30, i_31, i_32, i_39, i_40, i_41, i_42, i_43, i_44, i_45, i_47, i_48, i_49, i_50, i_51, i_52, i_57, i_59, i_60, i_61, i_62, i_63, i_64, i_71, i_72, i_80, i_91, i_93, i_97, i_99, i_100, i_122, i_227, i_228, i_232, i_251, i_255, i_256, i_463, i_999, i_1000, i_1519, i_1600, i_9999, i_100000000, i_2147483639, i_2147483647, neg_nI1, nI_add, pk_mul, nI_remL, pk_sub, pk_div, nI_clamp, nI_leI, nI_ltI, nI_eq, vpT, nI_m1, m1_nI, nI_lem1, m1_le, m1_lt, nI_ltm1, nI_bit, nI_shl, nI_xor, nI_or, n_rem]
            rw [c7_mod hl.1, c7_div hl.1, show 8 * (r.2.1 / 8) + r.2.1 % 8 = r.2.1 by omega]
            exact hq
          · rw [if_pos z] at hq; exact hq
      by_cases hs0 : set = 0
      · rw [if_pos hs0] at hQ'
        refine hX _ _ _ _ _ _ ?_
        rw [e74, hs0]
        refine ⟨fun _ => fin none _ _ _ rfl (fun r hr => by cases hr) hQ', fun z => absurd rfl z⟩
      · rw [if_neg hs0] at hQ'
        have key : ∀ j d (b : Option (Nat × Nat × Nat)) (x3 x4 x5 : Int32), min 31 (1000 - zD (wS Z)) - d = j → d ≤ min 31 (1000 - zD (wS Z)) → tlI b x3 x4 x5 → tlK (wP Z) b → ((List.range (min 31 (1000 - zD (wS Z)))).drop d).foldl (fun b d => (cls (wP Z)).foldl (tlB (wP Z) (wS Z) t set d) b) b = tlS (wP Z) (wS Z) t set → X (nI w) x3 x4 x5 (nI d) σ' := by
          intro j
          induction j with
          | zero =>
            intro d b x3 x4 x5 hj hd hi hk he
            rw [rng_end (by omega), List.foldl_nil] at he
            refine hX _ _ _ _ _ _ ?_
            rw [e74]
            have hfin := fin b x3 x4 x5 hi hk (by rw [← he] at hQ'; exact hQ')
            refine ⟨fun _ => hfin, fun _ => ?_⟩
            refine ml_isAhead (lo := 0) (hi := 30) (Or.inl hP) hN (by omega) (by decide) (by decide) (fun i d1 _ _ d3 d4 d5 => ?_) (fun d1 => ?_)
            · have : d = i := (nI_eq (by omega) (by omega)).mp d4
              omega
            · simp (disch := omega) only [i_0, i_1, i_2, i_3, i_4, i_5, i_6, i_7, i_8, i_9, i_10, i_11, i_12, i_13, i_16, i_19, i_20, i_21, i_22, i_23, i_24, i_25, i_30, i_31, i_32, i_39, i_40, i_41, i_42, i_43, i_44, i_45, i_47, i_48, i_49, i_50, i_51, i_52, i_57, i_59, i_60, i_61, i_62, i_63, i_64, i_71, i_72, i_80, i_91, i_93, i_97, i_99, i_100, i_122, i_227, i_228, i_232, i_251, i_255, i_256, i_463, i_999, i_1000, i_1519, i_1600, i_9999, i_100000000, i_2147483639, i_2147483647, neg_nI1, nI_add, pk_mul, nI_remL, pk_sub, pk_div, nI_clamp, nI_leI, nI_ltI, nI_eq, vpT, nI_m1, m1_nI, nI_lem1, m1_le, m1_lt, nI_ltm1, nI_bit, nI_shl, nI_xor, nI_or, n_rem, forall_eq, true_and, and_true, implies_true, true_implies, false_implies, not_true_eq_false, not_false_eq_true, Nat.zero_add, Nat.add_zero, ite_true, ite_false, if_true, if_false, true_or, or_true, false_or, or_false, and_self, and_false, false_and, Nat.reduceEqDiff, reduceIte]
              exact hfin
          | succ j ih =>
            intro d b x3 x4 x5 hj hd hi hk he
            rw [rng_at (by omega), List.foldl_cons] at he
            refine hX _ _ _ _ _ _ ?_
            rw [e74]
            refine ⟨fun z => absurd ((nI_eq (by omega) (by omega)).mp (z.trans i_0)) hs0, fun _ => ?_⟩
            refine ml_isAhead (lo := 0) (hi := 30) (Or.inl hP) hN (by omega) (by decide) (by decide) (fun i d1 _ _ d3 d4 d5 => ?_) (fun d1 => ?_)
            · simp (disch := omega) only [i_0, i_1, i_2, i_3, i_4, i_5, i_6, i_7, i_8, i_9, i_10, i_11, i_12, i_13, i_16, i_19, i_20, i_21, i_22, i_23, i_24, i_25, i_30, i_31, i_32, i_39, i_40, i_41, i_42, i_43, i_44, i_45, i_47, i_48, i_49, i_50, i_51, i_52, i_57, i_59, i_60, i_61, i_62, i_63, i_64, i_71, i_72, i_80, i_91, i_93, i_97, i_99, i_100, i_122, i_227, i_228, i_232, i_251, i_255, i_256, i_463, i_999, i_1000, i_1519, i_1600, i_9999, i_100000000, i_2147483639, i_2147483647, neg_nI1, nI_add, pk_mul, nI_remL, pk_sub, pk_div, nI_clamp, nI_leI, nI_ltI, nI_eq, vpT, nI_m1, m1_nI, nI_lem1, m1_le, m1_lt, nI_ltm1, nI_bit, nI_shl, nI_xor, nI_or, n_rem, forall_eq, true_and, and_true, implies_true, true_implies, false_implies, not_true_eq_false, not_false_eq_true, Nat.zero_add, Nat.add_zero, ite_true, ite_false, if_true, if_false, true_or, or_true, false_or, or_false, and_self, and_false, false_and, Nat.reduceEqDiff, reduceIte]
              unfold mw_tells_61
              intro Y hY
              have cells : ∀ n k (b : Option (Nat × Nat × Nat)) (x3 x4 x5 : Int32), plC (wP Z) * plR (wP Z) - k = n → k ≤ plC (wP Z) * plR (wP Z) → tlI b x3 x4 x5 → tlK (wP Z) b → ((List.range (min 31 (1000 - zD (wS Z)))).drop (d + 1)).foldl (fun b d => (cls (wP Z)).foldl (tlB (wP Z) (wS Z) t set d) b) (((cls (wP Z)).drop k).foldl (tlB (wP Z) (wS Z) t set d) b) = tlS (wP Z) (wS Z) t set → Y (nI w) x3 x4 x5 (nI d) (nI k) σ' := by
                intro n
                induction n with
                | zero =>
                  intro k b x3 x4 x5 hn hkk hi hk he
                  rw [cls_end hP.1 (by omega), List.foldl_nil] at he
                  refine hY _ _ _ _ _ _ _ (ml_cellMany hP ⟨fun _ => ?_, fun z => absurd ((nI_leI (by omega) (by omega)).mpr (by omega)) z⟩)
                  rw [nI_1]
                  exact ih (d + 1) b x3 x4 x5 (by omega) (by omega) hi hk he
                | succ n ihn =>
                  intro k b x3 x4 x5 hn hkk hi hk he
                  have hk2 : k < plC (wP Z) * plR (wP Z) := by omega
                  obtain ⟨hc, h7⟩ := ordC_ok hP.1 hk2
                  rw [cls_at hP.1 hk2, List.foldl_cons] at he
                  refine hY _ _ _ _ _ _ _ (ml_cellMany hP ⟨fun z => absurd ((nI_leI (by omega) (by omega)).mp z) (by omega), fun _ => ml_cellOrder hP hk2 ?_⟩)
                  have h49 := c7_lt hP.1 hc
                  simp (disch := omega) only [i_0, i_1, i_2, i_3, i_4, i_5, i_6, i_7, i_8, i_9, i_10, i_11, i_12, i_13, i_16, i_19, i_20, i_21, i_22, i_23, i_24, i_25, i_30, i_31, i_32, i_39, i_40, i_41, i_42, i_43, i_44, i_45, i_47, i_48, i_49, i_50, i_51, i_52, i_57, i_59, i_60, i_61, i_62, i_63, i_64, i_71, i_72, i_80, i_91, i_93, i_97, i_99, i_100, i_122, i_227, i_228, i_232, i_251, i_255, i_256, i_463, i_999, i_1000, i_1519, i_1600, i_9999, i_100000000, i_2147483639, i_2147483647, neg_nI1, nI_add, pk_mul, nI_remL, pk_sub, pk_div, nI_clamp, nI_leI, nI_ltI, nI_eq, vpT, nI_m1, m1_nI, nI_lem1, m1_le, m1_lt, nI_ltm1, nI_bit, nI_shl, nI_xor, nI_or, n_rem, forall_eq, true_and, and_true, implies_true, true_implies, false_implies, not_true_eq_false, not_false_eq_true, Nat.zero_add, Nat.add_zero, ite_true, ite_false, if_true, if_false, true_or, or_true, false_or, or_false, and_self, and_false, false_and, Nat.reduceEqDiff, reduceIte]
                  have hm := mostS_le (nP (wP Z)) set (vS (wP Z) (wS Z) t d (ordC (wP Z) k))
                  refine ml_mostAlike hP hN.1 hz hW e74 hset (by omega) hc ?_
                  have take : tlB (wP Z) (wS Z) t set d b (ordC (wP Z) k) = some (d, ordC (wP Z) k, mostS (nP (wP Z)) set (vS (wP Z) (wS Z) t d (ordC (wP Z) k))) → mw_tells_103 X Y (nI w) (nI d) (nI k) (nI (mostS (nP (wP Z)) set (vS (wP Z) (wS Z) t d (ordC (wP Z) k)))) σ' Q := by
                    intro ht
                    rw [ht] at he
                    unfold mw_tells_103 mw_tells_118
                    refine ml_cellOrder hP hk2 ?_
                    rw [nI_1]
                    exact ihn (k + 1) (some (d, ordC (wP Z) k, mostS (nP (wP Z)) set (vS (wP Z) (wS Z) t d (ordC (wP Z) k)))) _ _ _ (by omega) (by omega) (show _ ∧ _ ∧ _ from ⟨rfl, rfl, rfl⟩) (fun r hr => by cases hr; exact ⟨by show d ≤ 30; omega, hc, by show mostS (nP (wP Z)) set (vS (wP Z) (wS Z) t d (ordC (wP Z) k)) ≤ 7; omega⟩) he
                  cases b with
                  | none =>
                    have hi : x3 = M1 := hi
                    subst hi
                    simp (disch := omega) only [i_0, i_1, i_2, i_3, i_4, i_5, i_6, i_7, i_8, i_9, i_10, i_11, i_12, i_13, i_16, i_19, i_20, i_21, i_22, i_23, i_24, i_25, i_30, i_31, i_32, i_39, i_40, i_41, i_42, i_43, i_44, i_45, i_47, i_48, i_49, i_50, i_51, i_52, i_57, i_59, i_60, i_61, i_62, i_63, i_64, i_71, i_72, i_80, i_91, i_93, i_97, i_99, i_100, i_122, i_227, i_228, i_232, i_251, i_255, i_256, i_463, i_999, i_1000, i_1519, i_1600, i_9999, i_100000000, i_2147483639, i_2147483647, neg_nI1, nI_add, pk_mul, nI_remL, pk_sub, pk_div, nI_clamp, nI_leI, nI_ltI, nI_eq, vpT, nI_m1, m1_nI, nI_lem1, m1_le, m1_lt, nI_ltm1, nI_bit, nI_shl, nI_xor, nI_or, n_rem, forall_eq, true_and, and_true, implies_true, true_implies, false_implies, not_true_eq_false, not_false_eq_true, Nat.zero_add, Nat.add_zero, ite_true, ite_false, if_true, if_false, true_or, or_true, false_or, or_false, and_self, and_false, false_and, Nat.reduceEqDiff, reduceIte]
                    exact take rfl
                  | some r =>
                    obtain ⟨e3, e4, e5⟩ := (show x3 = nI r.1 ∧ x4 = nI (c7 r.2.1) ∧ x5 = nI r.2.2 from hi)
                    obtain ⟨k1, k3, k4⟩ := hk r rfl
                    rw [e3, e5]
                    simp (disch := omega) only [i_0, i_1, i_2, i_3, i_4, i_5, i_6, i_7, i_8, i_9, i_10, i_11, i_12, i_13, i_16, i_19, i_20, i_21, i_22, i_23, i_24, i_25, i_30, i_31, i_32, i_39, i_40, i_41, i_42, i_43, i_44, i_45, i_47, i_48, i_49, i_50, i_51, i_52, i_57, i_59, i_60, i_61, i_62, i_63, i_64, i_71, i_72, i_80, i_91, i_93, i_97, i_99, i_100, i_122, i_227, i_228, i_232, i_251, i_255, i_256, i_463, i_999, i_1000, i_1519, i_1600, i_9999, i_100000000, i_2147483639, i_2147483647, neg_nI1, nI_add, pk_mul, nI_remL, pk_sub, pk_div, nI_clamp, nI_leI, nI_ltI, nI_eq, vpT, nI_m1, m1_nI, nI_lem1, m1_le, m1_lt, nI_ltm1, nI_bit, nI_shl, nI_xor, nI_or, n_rem, forall_eq, true_and, and_true, implies_true, true_implies, false_implies, not_true_eq_false, not_false_eq_true, Nat.zero_add, Nat.add_zero, ite_true, ite_false, if_true, if_false, true_or, or_true, false_or, or_false, and_self, and_false, false_and, Nat.reduceEqDiff, reduceIte]
                    refine ⟨fun z => take (by unfold tlB; simp only []; rw [if_pos z]), fun z => ?_⟩
                    have ht : tlB (wP Z) (wS Z) t set d (some r) (ordC (wP Z) k) = some r := by unfold tlB; simp only []; rw [if_neg z]
                    rw [ht] at he
                    unfold mw_tells_118
                    rw [nI_1]
                    exact ihn (k + 1) (some r) _ _ _ (by omega) (by omega) (show _ ∧ _ ∧ _ from ⟨rfl, e4, rfl⟩) hk he
              exact cells _ 0 b x3 x4 x5 rfl (by omega) hi hk (by rw [List.drop_zero]; exact he)
            · have : ahd (wP Z) (wS Z) (nI d) 0 30 = some d := by
                unfold ahd
                rw [ix_nI (by omega) (by omega)]
                simp only []
                rw [if_pos ⟨by have := hP.1.1; omega, by omega, by omega⟩]
              rw [this] at d1; cases d1
        exact key _ 0 none _ _ _ rfl (by omega) rfl (fun r hr => by cases hr) rfl
    · simp only [a, a1] at hQ
      simp (disch := omega) only [i_0, i_1, i_2, i_3, i_4, i_5, i_6, i_7, i_8, i_9, i_10, i_11, i_12, i_13, i_16, i_19, i_20, i_21, i_22, i_23, i_24, i_25, i_30, i_31, i_32, i_39, i_40, i_41, i_42, i_43, i_44, i_45, i_47, i_48, i_49, i_50, i_51, i_52, i_57, i_59, i_60, i_61, i_62, i_63, i_64, i_71, i_72, i_80, i_91, i_93, i_97, i_99, i_100, i_122, i_227, i_228, i_232, i_251, i_255, i_256, i_463, i_999, i_1000, i_1519, i_1600, i_9999, i_100000000, i_2147483639, i_2147483647, neg_nI1, nI_add, pk_mul, nI_remL, pk_sub, pk_div, nI_clamp, nI_leI, nI_ltI, nI_eq, vpT, nI_m1, m1_nI, nI_lem1, m1_le, m1_lt, nI_ltm1, nI_bit, nI_shl, nI_xor, nI_or, n_rem, forall_eq, true_and, and_true, implies_true, true_implies, false_implies, not_true_eq_false, not_false_eq_true, Nat.zero_add, Nat.add_zero, ite_true, ite_false, if_true, if_false, true_or, or_true, false_or, or_false, and_self, and_false, false_and, Nat.reduceEqDiff, reduceIte]
      exact hQ σ h
  · simp only [a] at hQ
    simp (disch := omega) only [i_0, i_1, i_2, i_3, i_4, i_5, i_6, i_7, i_8, i_9, i_10, i_11, i_12, i_13, i_16, i_19, i_20, i_21, i_22, i_23, i_24, i_25, i_30, i_31, i_32, i_39, i_40, i_41, i_42, i_43, i_44, i_45, i_47, i_48, i_49, i_50, i_51, i_52, i_57, i_59, i_60, i_61, i_62, i_63, i_64, i_71, i_72, i_80, i_91, i_93, i_97, i_99, i_100, i_122, i_227, i_228, i_232, i_251, i_255, i_256, i_463, i_999, i_1000, i_1519, i_1600, i_9999, i_100000000, i_2147483639, i_2147483647, neg_nI1, nI_add, pk_mul, nI_remL, pk_sub, pk_div, nI_clamp, nI_leI, nI_ltI, nI_eq, vpT, nI_m1, m1_nI, nI_lem1, m1_le, m1_lt, nI_ltm1, nI_bit, nI_shl, nI_xor, nI_or, n_rem, forall_eq, true_and, and_true, implies_true, true_implies, false_implies, not_true_eq_false, not_false_eq_true, Nat.zero_add, Nat.add_zero, ite_true, ite_false, if_true, if_false, true_or, or_true, false_or, or_false, and_self, and_false, false_and, Nat.reduceEqDiff, reduceIte]
    exact hQ σ h
