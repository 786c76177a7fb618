/-! THE SYSTEM: what was seen; images -/
theorem xl_byteAt {ν : XN} {Z : Wd} {k : Nat} {Q : Int32 → XN → Prop} (h : ∀ i, i < 1600 → tB (fA ν.1 0 i) (wTp Z i)) (hk : k < 1600) (hQ : Q (nI (wTp Z k)) ν) : xw_X0_byteAt (nI k) ν Q := by
  unfold xw_X0_byteAt
  rw [nI_clamp (by omega), i_255, (h k hk).and]
  exact ⟨vp_in_nI hk (by decide), hQ⟩
theorem xAll.taken {ν : XN} {Z : Wd} (h : xAll ν Z) : xAll (sI ν.1 0 2 (nI 0), ν.2) (putT Z (wTp Z) 0) := h.tape (X0.sI _ _ (by decide)) rfl rfl (by omega) h.1.2.2.2.2.1 (by rw [fI_sI, if_pos ⟨rfl, rfl⟩]) h.2.2.1.2
theorem ix_lt {a n : Nat} (h : a < n) (hn : n < 2 ^ 31) : ix (nI a) n = some a := by rw [ix_nI2 (by omega), if_pos h]
theorem xa_see {ν : XN} {Z : Wd} {Q : Int32 → XN → Prop} (h : xAll ν Z) (hQ : ∀ ν', xAll ν' (opSee Z).2 → Q (opSee Z).1 ν') : xw_X0_see ν Q := by
  have hT := h.1.2.2.2.1
  have hT2 := h.1.2.2.2.2.1
  have hnp := h.1.np
  have h1 := h.2.2.1.1
  have hA := h.taken
  unfold xw_X0_see xw_X0_taken
  intro ν1 e1
  have e1 : ν1 = (sI ν.1 0 2 (nI 0), ν.2) := e1
  rw [← e1] at hA
  rw [h1]
  have bad : ∀ (ν' : XN), xAll ν' (putT Z (wTp Z) 0) → ¬ (0 < wTn Z ∧ wTn Z % 4 = 0 ∧ wTn Z ≤ 64 ∧ (List.range (wTn Z / 4)).all (rowOK (wP Z) (wTp Z)) = true) → xw_X0_see_93 (nI (wTn Z)) (nI 0) ν' Q := by
    intro ν' hA' hc
    unfold xw_X0_see_93
    unfold opSee at hQ
    rw [if_neg hc] at hQ
    exact ⟨fun z => absurd rfl z, fun _ => xl_refuses hA' (by decide) hQ⟩
  have bad2 : ¬ (0 < wTn Z ∧ wTn Z % 4 = 0 ∧ wTn Z ≤ 64 ∧ (List.range (wTn Z / 4)).all (rowOK (wP Z) (wTp Z)) = true) → xw_X0_see_25 (nI (wTn Z)) ν1 Q := by
    intro hc
    unfold xw_X0_see_25 xw_X0_see_26 xw_X0_see_29
    intro X hX
    refine hX _ _ _ _ ⟨fun _ => bad ν1 hA hc, fun _ => ⟨fun _ => bad ν1 hA hc, fun z => absurd rfl z⟩⟩
  simp (disch := omega) only [i_0, i_1, i_2, i_3, i_4, i_5, i_6, i_7, i_8, i_9, i_10, i_11, i_12, i_13, i_16, i_19, i_20, i_21, i_22, i_23, i_24, i_25, i_30, i_31, i_32, i_39, i_40, i_41, i_42, i_43, i_44, i_45, i_47, i_48, i_49, i_50, i_51, i_52, i_57, i_59, i_60, i_61, i_62, i_63, i_64, i_71, i_72, i_80, i_91, i_93, i_97, i_99, i_100, i_122, i_227, i_228, i_232, i_251, i_255, i_256, i_463, i_999, i_1000, i_1519, i_1600, i_9999, i_100000000, i_2147483639, i_2147483647, neg_nI1, nI_add, pk_mul, nI_remL, pk_sub, pk_div, nI_clamp, nI_leI, nI_ltI, nI_eq, vpT, nI_m1, m1_nI, nI_lem1, m1_le, m1_lt, nI_ltm1, nI_bit, nI_shl, nI_xor, nI_or, n_rem, forall_eq, true_and, and_true, implies_true, true_implies, false_implies, not_true_eq_false, not_false_eq_true, Nat.zero_add, Nat.add_zero, ite_true, ite_false, if_true, if_false, true_or, or_true, false_or, or_false, and_self, and_false, false_and, Nat.reduceEqDiff, reduceIte]
  refine ⟨fun z => bad2 (by omega), fun z1 => ⟨fun z => bad2 (by omega), fun z2 => ⟨fun z => bad2 (by omega), fun z3 => ?_⟩⟩⟩
  unfold xw_X0_see_26 xw_X0_see_29
  intro X hX
  have tp : ∀ i, i < 1600 → tB (fA ν1.1 0 i) (wTp Z i) := hA.2.2.1.2
  obtain ⟨b, hb, -⟩ := hA.pb
  have hb' : xPb ν1 b (wP Z) := hb
  have key : ∀ m k, wTn Z / 4 - k = m → k ≤ wTn Z / 4 → (∀ i, i < k → rowOK (wP Z) (wTp Z) i = true) → X (nI (wTn Z)) (nI 1) (nI (4 * k)) ν1 := by
    intro m
    induction m with
    | zero =>
      intro k hm hk hall
      refine hX _ _ _ _ ⟨fun _ => ?_, fun z => absurd ((nI_leI (by omega) (by omega)).mpr (by omega)) z⟩
      have hok : (List.range (wTn Z / 4)).all (rowOK (wP Z) (wTp Z)) = true := by
        rw [List.all_eq_true]
        intro i hi
        exact hall i (by have := List.mem_range.mp hi; omega)
      unfold opSee at hQ
      rw [if_pos ⟨by omega, by omega, by omega, hok⟩] at hQ
      unfold xw_X0_see_93
      refine ⟨fun _ => ?_, fun z => absurd z (by decide)⟩
      rw [i_4, pk_div (by omega) (by decide) (by decide)]
      intro ν2 e2
      subst e2
      unfold xw_X0_see_112
      intro Y hY
      have fill : ∀ m k (ν2 : XN), wTn Z / 4 - k = m → k ≤ wTn Z / 4 → X0 [18] [6, 7, 8] ν1.1 ν2.1 → ν2.2 = ν1.2 → fL ν2.1 = fL ν1.1 → fI ν2.1 0 18 = nI (wTn Z / 4) → (∀ i, i < k → fA ν2.1 6 i = nI (rowAt (wTp Z) i).1 ∧ fA ν2.1 7 i = nI (rowAt (wTp Z) i).2.1 ∧ fA ν2.1 8 i = nI (rowAt (wTp Z) i).2.2) → Y (nI k) ν2 := by
        intro m
        induction m with
        | zero =>
          intro k ν2 hm hk g e2 eL f18 hr
          refine hY _ _ ?_
          rw [f18]
          refine ⟨fun _ => hQ ν2 ?_, fun z => absurd ((nI_leI (by omega) (by omega)).mpr (by omega)) z⟩
          obtain ⟨g1, g2, g3⟩ := hA
          refine ⟨?_, g.co e2 (by decide) g1.2.2.2.2.2.2.2.1 g2, ?_⟩
          · obtain ⟨w1, w2, w3, w4, w5, w6, w7, w8⟩ := g1
            refine ⟨w1, w2, w3, w4, w5, ?_, fun q hq => ?_, w8⟩
            · show ((List.range (wTn Z / 4)).map (rowAt (wTp Z))).length ≤ 16
              rw [List.length_map, List.length_range]; omega
            · have hq : q ∈ (List.range (wTn Z / 4)).map (rowAt (wTp Z)) := hq
              obtain ⟨i, hi, rfl⟩ := List.mem_map.mp hq
              have h5 := hall i (by have := List.mem_range.mp hi; omega)
              unfold rowOK at h5
              rw [decide_eq_true_iff] at h5
              refine ⟨h5.1, ?_, h5.2.2.2⟩
              show isC (wP Z) (8 * wTp Z (4 * i + 2) + wTp Z (4 * i + 1))
              constructor <;> omega
          · obtain ⟨q1, q2, q3, q4, q5, q6, q7⟩ := g3
            refine ⟨⟨by rw [g.1 0 2 (Or.inr (by decide))]; exact q1.1, by rw [g.2.1 0 (by decide)]; exact q1.2⟩, by rw [g.1 0 3 (Or.inr (by decide)), g.1 0 4 (Or.inr (by decide))]; exact q2, by rw [g.2.1 1 (by decide)]; exact q3, ⟨?_, fun i q hq => ?_⟩, by rw [g.1 0 21 (Or.inr (by decide))]; exact q5, by rw [eL]; exact q6, ⟨by rw [g.1 0 25 (Or.inr (by decide))]; exact q7.1, by rw [g.2.1 11 (by decide)]; exact q7.2⟩⟩
            · show fI ν2.1 0 18 = nI ((List.range (wTn Z / 4)).map (rowAt (wTp Z))).length
              rw [f18, List.length_map, List.length_range]
            · have hq : ((List.range (wTn Z / 4)).map (rowAt (wTp Z)))[i]? = some q := hq
              have hi := (List.getElem?_eq_some_iff.mp hq).1
              rw [List.length_map, List.length_range] at hi
              rw [List.getElem?_map, List.getElem?_range hi] at hq
              cases hq
              exact hr i (by omega)
        | succ m ih =>
          intro k ν2 hm hk g e2 eL f18 hr
          have h5 := hall k (by omega)
          unfold rowOK at h5
          rw [decide_eq_true_iff] at h5
          have b0 := hT2 (4 * k); have b1 := hT2 (4 * k + 1); have b2 := hT2 (4 * k + 2); have b3 := hT2 (4 * k + 3)
          have tp2 : ∀ i, i < 1600 → tB (fA ν2.1 0 i) (wTp Z i) := by rw [g.2.1 0 (by decide)]; exact tp
          refine hY _ _ ?_
          rw [f18]
          refine ⟨fun z => absurd ((nI_leI (by omega) (by omega)).mp z) (by omega), fun _ => ?_⟩
          rw [i_4, pk_mul, i_2, i_1, i_3, nI_add, nI_add, nI_add]
          refine xl_byteAt tp2 (by omega) ⟨vp_in_nI (by omega) (by decide), ?_⟩
          rw [nI_clamp (by omega)]
          intro ν3 e3
          have tp3 : ∀ i, i < 1600 → tB (fA ν3.1 0 i) (wTp Z i) := fun i hi => by rw [e3]; show tB (fA (sA ν2.1 6 k _) 0 i) _; rw [fA_sA, if_neg (by omega)]; exact tp2 i hi
          refine xl_byteAt tp3 (by omega) (xl_byteAt tp3 (by omega) ⟨vp_in_nI (by omega) (by decide), ?_⟩)
          rw [i_8, pk_mul, nI_add]
          intro ν4 e4
          have tp4 : ∀ i, i < 1600 → tB (fA ν4.1 0 i) (wTp Z i) := fun i hi => by rw [e4]; show tB (fA (sA ν3.1 7 k _) 0 i) _; rw [fA_sA, if_neg (by omega)]; exact tp3 i hi
          refine xl_byteAt tp4 (by omega) ⟨vp_in_nI (by omega) (by decide), ?_⟩
          intro ν5 e5
          subst e5
          subst e4
          subst e3
          rw [nI_add]
          refine ih (k + 1) _ (by omega) (by omega) (g.trans ((X0.sA _ _ _ (by decide)).trans ((X0.sA _ _ _ (by decide)).trans (X0.sA _ _ _ (by decide))))) e2 eL f18 (fun i hi => ?_)
          show fA (sA (sA (sA ν2.1 6 k _) 7 k _) 8 k _) 6 i = _ ∧ fA (sA (sA (sA ν2.1 6 k _) 7 k _) 8 k _) 7 i = _ ∧ fA (sA (sA (sA ν2.1 6 k _) 7 k _) 8 k _) 8 i = _
          by_cases z : i = k
          · subst z
            simp only [fA_sA, Nat.reduceEqDiff, false_and, true_and, and_self, if_true, if_false]
            exact ⟨rfl, rfl, rfl⟩
          · simp only [fA_sA, z, and_false, if_false]
            exact hr i (by omega)
      refine fill _ 0 _ rfl (by omega) (X0.sI _ _ (by decide)) rfl rfl ?_ (fun i hi => by omega)
      rw [fI_sI, if_pos ⟨rfl, rfl⟩]
    | succ m ih =>
      intro k hm hk hall
      have b0 := hT2 (4 * k); have b1 := hT2 (4 * k + 1); have b2 := hT2 (4 * k + 2); have b3 := hT2 (4 * k + 3)
      have fail : rowOK (wP Z) (wTp Z) k = false → X (nI (wTn Z)) (nI 0) (nI (4 * k) + 4) ν1 := by
        intro hf
        have := bad ν1 hA (fun q => by
          have := List.all_eq_true.mp q.2.2.2 k (List.mem_range.mpr (by omega))
          rw [hf] at this; cases this)
        exact hX _ _ _ _ ⟨fun _ => this, fun _ => ⟨fun _ => this, fun z => absurd rfl z⟩⟩
      have hro : rowOK (wP Z) (wTp Z) k = decide (wTp Z (4 * k) ≤ 30 ∧ wTp Z (4 * k + 1) < plC (wP Z) ∧ wTp Z (4 * k + 2) < plR (wP Z) ∧ wTp Z (4 * k + 3) ≤ 99) := rfl
      rw [hro] at fail
      refine hX _ _ _ _ ⟨fun z => absurd ((nI_leI (by omega) (by omega)).mp z) (by omega), fun _ => ⟨fun z => absurd z (by decide), fun _ => ?_⟩⟩
      unfold xw_X0_see_85 xw_X0_see_86
      refine xl_byteAt tp (by omega) ?_
      rw [i_30, nI_ltI (by omega) (by omega)]
      refine ⟨fun z => fail (decide_eq_false (by omega)), fun z => ?_⟩
      rw [i_1, i_2, i_3, nI_add, nI_add, nI_add]
      refine xl_byteAt tp (by omega) (xl_byteAt tp (by omega) ?_)
      refine xl_isIn hb' (fun c r c1 r1 c2 r2 c3 r3 => ⟨fun q => absurd q (by decide), fun _ => ?_⟩) (fun hx => ⟨fun _ => fail (decide_eq_false (fun q => ?_)), fun q => absurd rfl q⟩)
      · rw [nI_eq (by omega) (by omega)] at c3 r3
        refine xl_byteAt tp (by omega) ?_
        rw [i_99, nI_ltI (by omega) (by omega)]
        refine ⟨fun z2 => fail (decide_eq_false (by omega)), fun z2 => ?_⟩
        have e4 : nI (4 * k) + 4 = nI (4 * (k + 1)) := by rw [i_4, nI_add]; congr 1
        rw [e4]
        refine ih (k + 1) (by omega) (by omega) (fun i hi => ?_)
        by_cases w : i = k
        · subst w
          rw [hro, decide_eq_true_iff]
          omega
        · exact hall i (by omega)
      · rcases hx with w | w
        · rw [ix_lt q.2.1 (by omega)] at w; cases w
        · rw [ix_lt q.2.2.1 (by omega)] at w; cases w
  exact key _ 0 rfl (by omega) (fun i hi => by omega)
