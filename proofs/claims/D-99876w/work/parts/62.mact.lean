/-! THE REFERENCE: acts -/
theorem mNf.eqv {f g : Nat → Int32} {P : Pl} {s : St} (hP : plOK P ∨ P = P0) (h : mNf f P s) (e : ∀ k, k < 71 → g k = f k) : mNf g P s := by
  refine ⟨by rw [e 0 (by omega)]; exact h.1, fun c hc => ?_, fun p hp => ?_⟩
  · rcases hP with hP | rfl
    · have := c7_lt hP hc
      rw [e _ (by omega)]; exact h.2.1 c hc
    · exact absurd hc.1 (by rw [P0_facts.1]; omega)
  · have h7 : nP P ≤ 7 := by
      rcases hP with hP | rfl
      · exact hP.2.2.2.2.1
      · decide
    rw [e _ (by omega), e _ (by omega), e _ (by omega)]; exact h.2.2 p hp
theorem mKf.eqv {f g : Nat → Int32} {l : List (Nat × Nat × Nat × Nat)} (h : mKf f l) (e : ∀ k, 71 ≤ k → k < 232 → g k = f k) : mKf g l := by
  refine ⟨by rw [e 71 (by omega) (by omega)]; exact h.1, h.2.1, fun k r hk => ?_⟩
  have := (List.getElem?_eq_some_iff.mp hk).1
  have := h.2.1
  rw [e _ (by omega) (by omega), e _ (by omega) (by omega), e _ (by omega) (by omega), e _ (by omega) (by omega)]; exact h.2.2 k r hk
theorem woOK.remb {Z : Wd} (h : woOK Z) : woOK (remb Z) := by
  obtain ⟨h1, h2, h3, h4, h5, h6, h7, h8, h9, h10, h11, h12⟩ := h
  refine ⟨h1, h2, h3, h4, h5, h6, h7, ?_, ?_, h10, h11, h12⟩
  · show ((wS Z :: wU Z).take 20).length ≤ 20
    rw [List.length_take]; omega
  · intro s hs
    rcases List.mem_cons.mp (List.mem_of_mem_take hs) with rfl | hs
    · exact ⟨h2, h3⟩
    · exact h9 s hs
theorem ml_stores {σ : FS} {Z : Wd} {Q : FS → Prop} (h : mAll σ Z) (hQ : ∀ σ', mAll σ' (remb Z) → Fm [76, 77] [75] [] σ σ' → Q σ') : mw_stores σ Q := by
  obtain ⟨h1, h2, h3, h4, h5, h6, h7, h8, h9, h10, h11, h12, h13, h14⟩ := h
  obtain ⟨u1, w, hw, u2, u3⟩ := h9
  have hul := h1.2.2.2.2.2.2.2.1
  unfold mw_stores
  rw [u2]
  simp (disch := omega) only [i_0, i_1, i_2, i_3, i_4, i_5, i_6, i_7, i_8, i_9, i_10, i_11, i_12, i_13, i_16, i_19, i_20, i_21, i_22, i_23, i_24, i_25, i_30, i_31, i_32, i_39, i_40, i_41, i_42, i_43, i_44, i_45, i_47, i_48, i_49, i_50, i_51, i_52, i_57, i_59, i_60, i_61, i_62, i_63, i_64, i_71, i_72, i_80, i_91, i_93, i_97, i_99, i_100, i_122, i_227, i_228, i_232, i_251, i_255, i_256, i_463, i_999, i_1000, i_1519, i_1600, i_9999, i_100000000, i_2147483639, i_2147483647, neg_nI1, nI_add, pk_mul, nI_remL, pk_sub, pk_div, nI_clamp, nI_leI, nI_ltI, nI_eq, vpT, nI_m1, m1_nI, nI_lem1, m1_le, m1_lt, nI_ltm1, nI_bit, nI_shl, nI_xor, nI_or, n_rem, forall_eq, true_and, and_true, implies_true, true_implies, false_implies, not_true_eq_false, not_false_eq_true, Nat.zero_add, Nat.add_zero, ite_true, ite_false, if_true, if_false, true_or, or_true, false_or, or_false, and_self, and_false, false_and, Nat.reduceEqDiff, reduceIte]
  unfold mw_stores_15
  intro X hX
  have hw' : (w + 1) % 20 < 20 := Nat.mod_lt _ (by decide)
  have key : ∀ j k (σ1 : FS), 232 - k = j → k ≤ 232 → Fm [76, 77] [75] [] σ σ1 → fI σ1 0 77 = nI ((w + 1) % 20) → fI σ1 0 76 = fI σ 0 76 → (∀ i, i < k → fA σ1 75 (232 * ((w + 1) % 20) + i) = fA σ 52 i) → (∀ i, (i < 232 * ((w + 1) % 20) ∨ 232 * ((w + 1) % 20) + 232 ≤ i) → fA σ1 75 i = fA σ 75 i) → X (nI k) σ1 := by
    intro j
    induction j with
    | zero =>
      intro k σ1 hj hk hF f77 f76 hc ho
      have hk : k = 232 := by omega
      subst hk
      have fin : ∀ σ2, Fm [76, 77] [75] [] σ1 σ2 → fA σ2 = fA σ1 → fI σ2 0 77 = fI σ1 0 77 → fI σ2 0 76 = nI ((wS Z :: wU Z).take 20).length → Q σ2 := by
        intro σ2 hF2 e75 e77 e76
        have hF3 := hF.trans hF2
        have hall : Fm [76, 77] [75] [] σ σ2 := hF3
        refine hQ σ2 ⟨h1.remb, ?_, ?_, ?_, h5.fm hF3 (by decide) (by decide) (by decide), h6.eqv (hF3.2.1 52 (by decide)), ?_, ?_, ⟨e76, (w + 1) % 20, hw', by rw [e77]; exact f77, ?_⟩, ?_, ?_, ?_, ?_, ?_⟩ hF3
        · exact ⟨by rw [hF3.1 1 (by decide)]; exact h2.1, by rw [hF3.2.1 0 (by decide)]; exact h2.2⟩
        · rw [hF3.1 7 (by decide), hF3.1 8 (by decide)]; exact h3
        · rw [hF3.2.1 9 (by decide)]; exact h4
        · unfold mKe; rw [hF3.2.1 52 (by decide)]; exact h7
        · exact ⟨by rw [hF3.1 71 (by decide)]; exact h8.1, by rw [hF3.2.1 72 (by decide)]; exact h8.2⟩
        · intro i s hs
          have hi20 : i < 20 := by
            have := (List.getElem?_eq_some_iff.mp hs).1
            have h20 : ((wS Z :: wU Z).take 20).length ≤ 20 := by rw [List.length_take]; omega
            have : i < ((wS Z :: wU Z).take 20).length := this
            omega
          have hs : ((wS Z :: wU Z).take 20)[i]? = some s := hs
          rw [List.getElem?_take_of_lt hi20] at hs
          rw [e75]
          cases i with
          | zero =>
            simp only [List.getElem?_cons_zero, Option.some.injEq] at hs
            subst hs
            have e : ((w + 1) % 20 + 20 - 0) % 20 = (w + 1) % 20 := by omega
            rw [e]
            exact ⟨h6.2.eqv h1.1 (fun k hk => hc k (by omega)), mKf.eqv (f := fA σ 52) h7 (fun k _ hk => hc k hk)⟩
          | succ i =>
            simp only [List.getElem?_cons_succ] at hs
            obtain ⟨a1, a2⟩ := u3 i s hs
            have e : ((w + 1) % 20 + 20 - (i + 1)) % 20 = (w + 20 - i) % 20 := by omega
            have hne : (w + 20 - i) % 20 ≠ (w + 1) % 20 := by omega
            rw [e]
            exact ⟨a1.eqv h1.1 (fun k hk => ho _ (by omega)), a2.eqv (fun k _ hk => ho _ (by omega))⟩
        · rw [hF3.2.2.2]; exact h10
        · exact ⟨by rw [hF3.1 113 (by decide)]; exact h11.1, by rw [hF3.2.1 112 (by decide)]; exact h11.2⟩
        · obtain ⟨sd, q1, q2⟩ := h12
          exact ⟨sd, q1, by rw [hF3.1 56 (by decide)]; exact q2⟩
        · rw [hF3.1 57 (by decide), hF3.1 60 (by decide)]; exact h13
        · exact h14.fm (fun a z => hF3.2.1 a (by simp; omega))
      refine hX _ _ ?_
      rw [i_232]
      refine ⟨fun _ => ?_, fun z => absurd ((nI_leI (by omega) (by omega)).mpr (by omega)) z⟩
      rw [f76, u1]
      simp (disch := omega) only [i_0, i_1, i_2, i_3, i_4, i_5, i_6, i_7, i_8, i_9, i_10, i_11, i_12, i_13, i_16, i_19, i_20, i_21, i_22, i_23, i_24, i_25, i_30, i_31, i_32, i_39, i_40, i_41, i_42, i_43, i_44, i_45, i_47, i_48, i_49, i_50, i_51, i_52, i_57, i_59, i_60, i_61, i_62, i_63, i_64, i_71, i_72, i_80, i_91, i_93, i_97, i_99, i_100, i_122, i_227, i_228, i_232, i_251, i_255, i_256, i_463, i_999, i_1000, i_1519, i_1600, i_9999, i_100000000, i_2147483639, i_2147483647, neg_nI1, nI_add, pk_mul, nI_remL, pk_sub, pk_div, nI_clamp, nI_leI, nI_ltI, nI_eq, vpT, nI_m1, m1_nI, nI_lem1, m1_le, m1_lt, nI_ltm1, nI_bit, nI_shl, nI_xor, nI_or, n_rem, forall_eq, true_and, and_true, implies_true, true_implies, false_implies, not_true_eq_false, not_false_eq_true, Nat.zero_add, Nat.add_zero, ite_true, ite_false, if_true, if_false, true_or, or_true, false_or, or_false, and_self, and_false, false_and, Nat.reduceEqDiff, reduceIte]
      refine ⟨fun z => fin σ1 (Fm.refl _ _ _ _) rfl rfl ?_, fun z => fin _ (Fm.sI σ1 _ (by decide)) rfl ?_ ?_⟩
      · rw [f76, u1, List.length_take, List.length_cons]; congr 1; omega
      · rw [fI_sI]; simp
      · rw [fI_sI, if_pos ⟨rfl, rfl⟩, List.length_take, List.length_cons]; congr 1; omega
    | succ j ih =>
      intro k σ1 hj hk hF f77 f76 hc ho
      refine hX _ _ ?_
      rw [f77]
      simp (disch := omega) only [i_0, i_1, i_2, i_3, i_4, i_5, i_6, i_7, i_8, i_9, i_10, i_11, i_12, i_13, i_16, i_19, i_20, i_21, i_22, i_23, i_24, i_25, i_30, i_31, i_32, i_39, i_40, i_41, i_42, i_43, i_44, i_45, i_47, i_48, i_49, i_50, i_51, i_52, i_57, i_59, i_60, i_61, i_62, i_63, i_64, i_71, i_72, i_80, i_91, i_93, i_97, i_99, i_100, i_122, i_227, i_228, i_232, i_251, i_255, i_256, i_463, i_999, i_1000, i_1519, i_1600, i_9999, i_100000000, i_2147483639, i_2147483647, neg_nI1, nI_add, pk_mul, nI_remL, pk_sub, pk_div, nI_clamp, nI_leI, nI_ltI, nI_eq, vpT, nI_m1, m1_nI, nI_lem1, m1_le, m1_lt, nI_ltm1, nI_bit, nI_shl, nI_xor, nI_or, n_rem, forall_eq, true_and, and_true, implies_true, true_implies, false_implies, not_true_eq_false, not_false_eq_true, Nat.zero_add, Nat.add_zero, ite_true, ite_false, if_true, if_false, true_or, or_true, false_or, or_false, and_self, and_false, false_and, Nat.reduceEqDiff, reduceIte]
      refine ⟨fun z => by omega, fun _ => ih (k + 1) _ (by omega) (by omega) (hF.trans (Fm.sA σ1 _ _ (by decide))) (by rw [fI_sA]; exact f77) (by rw [fI_sA]; exact f76) (fun i hi => ?_) (fun i hi => ?_)⟩
      · by_cases z : i = k
        · subst z; rw [fA_sA, if_pos ⟨rfl, rfl⟩, hF.2.1 52 (by decide)]
        · rw [fA_sA, if_neg (by omega)]; exact hc i (by omega)
      · rw [fA_sA, if_neg (by omega)]; exact ho i hi
  refine key _ 0 _ rfl (by omega) (Fm.sI σ _ (by decide)) ?_ ?_ (fun i hi => by omega) (fun i _ => rfl)
  · rw [fI_sI]; simp
  · rw [fI_sI]; simp
theorem woOK.putS {Z : Wd} {s : St} (h : woOK Z) (hs : stOK (wP Z) s) (hd : zD s ≤ 999) : woOK (putS Z s) := by
  obtain ⟨h1, h2, h3, h4, h5, h6, h7, h8, h9, h10, h11, h12⟩ := h
  exact ⟨h1, hs, hd, h4, h5, h6, h7, h8, h9, h10, h11, h12⟩
/-- the land has changed -/
theorem mAll.now {σ σ' : FS} {Z : Wd} {s : St} (h : mAll σ Z) (hd : zD s ≤ 999) (f : Fm kAs [52] [108] σ σ') (hN : mN σ' (wP Z) s) (hK : mKe σ' (zE s)) (hS : mSd σ') : mAll σ' (putS Z s) := by
  obtain ⟨h1, h2, h3, h4, h5, h6, h7, h8, h9, h10, h11, h12, h13, h14⟩ := h
  refine ⟨h1.putS hN.1 hd, ?_, ?_, ?_, h5.fm f (by decide) (by decide) (by decide), hN, hK, ?_, ?_, ?_, ?_, hS, ?_, ?_⟩
  · exact ⟨by rw [f.1 1 (by decide)]; exact h2.1, by rw [f.2.1 0 (by decide)]; exact h2.2⟩
  · rw [f.1 7 (by decide), f.1 8 (by decide)]; exact h3
  · rw [f.2.1 9 (by decide)]; exact h4
  · exact ⟨by rw [f.1 71 (by decide)]; exact h8.1, by rw [f.2.1 72 (by decide)]; exact h8.2⟩
  · unfold mUn; rw [f.1 76 (by decide), f.1 77 (by decide), f.2.1 75 (by decide)]; exact h9
  · rw [f.2.2.2]; exact h10
  · exact ⟨by rw [f.1 113 (by decide)]; exact h11.1, by rw [f.2.1 112 (by decide)]; exact h11.2⟩
  · rw [f.1 57 (by decide), f.1 60 (by decide)]; exact h13
  · exact h14.fm (fun a z => f.2.1 a (by simp; omega))
/-- a refusal -/
theorem mAll.rf {σ σ' : FS} {Z : Wd} {k : Nat} (h : mAll σ Z) (hk : k < 6) (e : σ' = sA σ 9 k (fA σ 9 k + nI 1)) : mAll σ' (putRf Z k) := by
  obtain ⟨h1, h2, h3, h4, h5, h6, h7, h8, h9, h10, h11, h12, h13, h14⟩ := h
  have f : Fm [] [9] [] σ σ' := by rw [e]; exact Fm.sA σ _ _ (by decide)
  refine ⟨h1, ?_, ?_, ?_, h5.fm f (by decide) (by decide) (by decide), h6.eqv (f.2.1 52 (by decide)), ?_, ?_, ?_, ?_, ?_, ?_, ?_, ?_⟩
  · exact ⟨by rw [f.1 1 (by decide)]; exact h2.1, by rw [f.2.1 0 (by decide)]; exact h2.2⟩
  · rw [f.1 7 (by decide), f.1 8 (by decide)]; exact h3
  · intro i hi
    rw [e, fA_sA]
    show _ = if i = k then wRf Z i + 1 else wRf Z i
    by_cases z : i = k
    · subst z; rw [if_pos ⟨rfl, rfl⟩, if_pos rfl, h4 i hi]; rfl
    · rw [if_neg (fun q => z q.2), if_neg z]; exact h4 i hi
  · unfold mKe; rw [f.2.1 52 (by decide)]; exact h7
  · exact ⟨by rw [f.1 71 (by decide)]; exact h8.1, by rw [f.2.1 72 (by decide)]; exact h8.2⟩
  · unfold mUn; rw [f.1 76 (by decide), f.1 77 (by decide), f.2.1 75 (by decide)]; exact h9
  · rw [f.2.2.2]; exact h10
  · exact ⟨by rw [f.1 113 (by decide)]; exact h11.1, by rw [f.2.1 112 (by decide)]; exact h11.2⟩
  · obtain ⟨sd, q1, q2⟩ := h12
    exact ⟨sd, q1, by rw [f.1 56 (by decide)]; exact q2⟩
  · rw [f.1 57 (by decide), f.1 60 (by decide)]; exact h13
  · exact h14.fm (fun a z => f.2.1 a (by simp; omega))
theorem ml_refuses {σ : FS} {Z : Wd} {k : Nat} {Q : Int32 → FS → Prop} (h : mAll σ Z) (hk : k < 6) (hQ : ∀ σ', mAll σ' (putRf Z k) → Q M1 σ') : mw_refuses (nI k) σ Q := by
  unfold mw_refuses
  simp (disch := omega) only [i_0, i_1, i_2, i_3, i_4, i_5, i_6, i_7, i_8, i_9, i_10, i_11, i_12, i_13, i_16, i_19, i_20, i_21, i_22, i_23, i_24, i_25, i_30, i_31, i_32, i_39, i_40, i_41, i_42, i_43, i_44, i_45, i_47, i_48, i_49, i_50, i_51, i_52, i_57, i_59, i_60, i_61, i_62, i_63, i_64, i_71, i_72, i_80, i_91, i_93, i_97, i_99, i_100, i_122, i_227, i_228, i_232, i_251, i_255, i_256, i_463, i_999, i_1000, i_1519, i_1600, i_9999, i_100000000, i_2147483639, i_2147483647, neg_nI1, nI_add, pk_mul, nI_remL, pk_sub, pk_div, nI_clamp, nI_leI, nI_ltI, nI_eq, vpT, nI_m1, m1_nI, nI_lem1, m1_le, m1_lt, nI_ltm1, nI_bit, nI_shl, nI_xor, nI_or, n_rem, forall_eq, true_and, and_true, implies_true, true_implies, false_implies, not_true_eq_false, not_false_eq_true, Nat.zero_add, Nat.add_zero, ite_true, ite_false, if_true, if_false, true_or, or_true, false_or, or_false, and_self, and_false, false_and, Nat.reduceEqDiff, reduceIte]
  exact hQ _ (h.rf hk rfl)
theorem ml_isRefused {σ : FS} {Z : Wd} {Q : Int32 → FS → Prop} (h : mAll σ Z) (hQ : ∀ σ', mAll σ' (putRf Z 2) → Q (nI 0) σ') : mw_isRefused σ Q := by
  unfold mw_isRefused
  simp (disch := omega) only [i_0, i_1, i_2, i_3, i_4, i_5, i_6, i_7, i_8, i_9, i_10, i_11, i_12, i_13, i_16, i_19, i_20, i_21, i_22, i_23, i_24, i_25, i_30, i_31, i_32, i_39, i_40, i_41, i_42, i_43, i_44, i_45, i_47, i_48, i_49, i_50, i_51, i_52, i_57, i_59, i_60, i_61, i_62, i_63, i_64, i_71, i_72, i_80, i_91, i_93, i_97, i_99, i_100, i_122, i_227, i_228, i_232, i_251, i_255, i_256, i_463, i_999, i_1000, i_1519, i_1600, i_9999, i_100000000, i_2147483639, i_2147483647, neg_nI1, nI_add, pk_mul, nI_remL, pk_sub, pk_div, nI_clamp, nI_leI, nI_ltI, nI_eq, vpT, nI_m1, m1_nI, nI_lem1, m1_le, m1_lt, nI_ltm1, nI_bit, nI_shl, nI_xor, nI_or, n_rem, forall_eq, true_and, and_true, implies_true, true_implies, false_implies, not_true_eq_false, not_false_eq_true, Nat.zero_add, Nat.add_zero, ite_true, ite_false, if_true, if_false, true_or, or_true, false_or, or_false, and_self, and_false, false_and, Nat.reduceEqDiff, reduceIte]
  exact hQ _ (h.rf (k := 2) (by decide) rfl)
theorem ma_undo {σ : FS} {Z : Wd} {Q : Int32 → FS → Prop} (h : mAll σ Z) (hQ : ∀ σ', mAll σ' (opUndo Z).2 → Q (opUndo Z).1 σ') : mw_undo σ Q := by
  have hA := h
  obtain ⟨h1, h2, h3, h4, h5, h6, h7, h8, h9, h10, h11, h12, h13, h14⟩ := h
  obtain ⟨u1, w, hw, u2, u3⟩ := h9
  have hul := h1.2.2.2.2.2.2.2.1
  unfold mw_undo
  unfold opUndo at hQ
  rw [u1]
  cases hu : wU Z with
  | nil =>
    rw [hu] at hQ
    simp only [List.length_nil]
    simp (disch := omega) only [i_0, i_1, i_2, i_3, i_4, i_5, i_6, i_7, i_8, i_9, i_10, i_11, i_12, i_13, i_16, i_19, i_20, i_21, i_22, i_23, i_24, i_25, i_30, i_31, i_32, i_39, i_40, i_41, i_42, i_43, i_44, i_45, i_47, i_48, i_49, i_50, i_51, i_52, i_57, i_59, i_60, i_61, i_62, i_63, i_64, i_71, i_72, i_80, i_91, i_93, i_97, i_99, i_100, i_122, i_227, i_228, i_232, i_251, i_255, i_256, i_463, i_999, i_1000, i_1519, i_1600, i_9999, i_100000000, i_2147483639, i_2147483647, neg_nI1, nI_add, pk_mul, nI_remL, pk_sub, pk_div, nI_clamp, nI_leI, nI_ltI, nI_eq, vpT, nI_m1, m1_nI, nI_lem1, m1_le, m1_lt, nI_ltm1, nI_bit, nI_shl, nI_xor, nI_or, n_rem, forall_eq, true_and, and_true, implies_true, true_implies, false_implies, not_true_eq_false, not_false_eq_true, Nat.zero_add, Nat.add_zero, ite_true, ite_false, if_true, if_false, true_or, or_true, false_or, or_false, and_self, and_false, false_and, Nat.reduceEqDiff, reduceIte]
    exact hQ _ (hA.rf (k := 4) (by decide) rfl)
  | cons s u =>
    rw [hu] at hQ hul
    simp only [List.length_cons] at hul ⊢
    simp (disch := omega) only [i_0, i_1, i_2, i_3, i_4, i_5, i_6, i_7, i_8, i_9, i_10, i_11, i_12, i_13, i_16, i_19, i_20, i_21, i_22, i_23, i_24, i_25, i_30, i_31, i_32, i_39, i_40, i_41, i_42, i_43, i_44, i_45, i_47, i_48, i_49, i_50, i_51, i_52, i_57, i_59, i_60, i_61, i_62, i_63, i_64, i_71, i_72, i_80, i_91, i_93, i_97, i_99, i_100, i_122, i_227, i_228, i_232, i_251, i_255, i_256, i_463, i_999, i_1000, i_1519, i_1600, i_9999, i_100000000, i_2147483639, i_2147483647, neg_nI1, nI_add, pk_mul, nI_remL, pk_sub, pk_div, nI_clamp, nI_leI, nI_ltI, nI_eq, vpT, nI_m1, m1_nI, nI_lem1, m1_le, m1_lt, nI_ltm1, nI_bit, nI_shl, nI_xor, nI_or, n_rem, forall_eq, true_and, and_true, implies_true, true_implies, false_implies, not_true_eq_false, not_false_eq_true, Nat.zero_add, Nat.add_zero, ite_true, ite_false, if_true, if_false, true_or, or_true, false_or, or_false, and_self, and_false, false_and, Nat.reduceEqDiff, reduceIte]
    obtain ⟨a1, a2⟩ := u3 0 s (by rw [hu]; rfl)
    have e0 : (w + 20 - 0) % 20 = w := by omega
    rw [e0] at a1 a2
    unfold mw_undo_21
    intro X hX
    have key : ∀ j k (σ1 : FS), 232 - k = j → k ≤ 232 → Fm [] [52] [] σ σ1 → (∀ i, i < k → fA σ1 52 i = fA σ 75 (232 * w + i)) → X (nI k) σ1 := by
      intro j
      induction j with
      | zero =>
        intro k σ1 hj hk hF hc
        have hk : k = 232 := by omega
        subst hk
        refine hX _ _ ?_
        rw [i_232]
        refine ⟨fun _ => ?_, fun z => absurd ((nI_leI (by omega) (by omega)).mpr (by omega)) z⟩
        have f76 : fI σ1 0 76 = nI (u.length + 1) := by rw [hF.1 76 (by decide), u1, hu]; rfl
        have f77 : fI σ1 0 77 = nI w := by rw [hF.1 77 (by decide), u2]
        rw [f77]
        simp (disch := omega) only [i_0, i_1, i_2, i_3, i_4, i_5, i_6, i_7, i_8, i_9, i_10, i_11, i_12, i_13, i_16, i_19, i_20, i_21, i_22, i_23, i_24, i_25, i_30, i_31, i_32, i_39, i_40, i_41, i_42, i_43, i_44, i_45, i_47, i_48, i_49, i_50, i_51, i_52, i_57, i_59, i_60, i_61, i_62, i_63, i_64, i_71, i_72, i_80, i_91, i_93, i_97, i_99, i_100, i_122, i_227, i_228, i_232, i_251, i_255, i_256, i_463, i_999, i_1000, i_1519, i_1600, i_9999, i_100000000, i_2147483639, i_2147483647, neg_nI1, nI_add, pk_mul, nI_remL, pk_sub, pk_div, nI_clamp, nI_leI, nI_ltI, nI_eq, vpT, nI_m1, m1_nI, nI_lem1, m1_le, m1_lt, nI_ltm1, nI_bit, nI_shl, nI_xor, nI_or, n_rem, forall_eq, true_and, and_true, implies_true, true_implies, false_implies, not_true_eq_false, not_false_eq_true, Nat.zero_add, Nat.add_zero, ite_true, ite_false, if_true, if_false, true_or, or_true, false_or, or_false, and_self, and_false, false_and, Nat.reduceEqDiff, reduceIte, fI_sI, fI_sL, fI_sA, fI_sB, fL_sI, fL_sL, fL_sA, fL_sB, fA_sI, fA_sL, fA_sA, fA_sB, fB_sI, fB_sL, fB_sA, fB_sB, f76]
        have g76 : u.length + 1 - 1 = u.length := by omega
        rw [g76]
        have hF2 : Fm [76, 77] [] [] σ1 (sI (sI σ1 0 77 (nI ((w + 20 - 1) % 20))) 0 76 (nI u.length)) := (Fm.sI σ1 _ (by decide)).trans (Fm.sI _ _ (by decide))
        have e77 : fI (sI (sI σ1 0 77 (nI ((w + 20 - 1) % 20))) 0 76 (nI u.length)) 0 77 = nI ((w + 20 - 1) % 20) := by rw [fI_sI, fI_sI]; simp
        have e76 : fI (sI (sI σ1 0 77 (nI ((w + 20 - 1) % 20))) 0 76 (nI u.length)) 0 76 = nI u.length := by rw [fI_sI]; simp
        have e52 : fA (sI (sI σ1 0 77 (nI ((w + 20 - 1) % 20))) 0 76 (nI u.length)) 52 = fA σ1 52 := rfl
        generalize sI (sI σ1 0 77 (nI ((w + 20 - 1) % 20))) 0 76 (nI u.length) = σ2 at hF2 e77 e76 e52 ⊢
        have hF3 : Fm [76, 77] [52] [] σ σ2 := (hF.wide (by decide) (by decide) (by decide)).trans (hF2.wide (by decide) (by decide) (by decide))
        have hsok := h1.2.2.2.2.2.2.2.2.1 s (by rw [hu]; exact List.mem_cons_self)
        refine hQ σ2 ⟨?_, ?_, ?_, ?_, h5.fm hF3 (by decide) (by decide) (by decide), ⟨hsok.1, ?_⟩, ?_, ?_, ⟨e76, (w + 20 - 1) % 20, Nat.mod_lt _ (by decide), e77, ?_⟩, ?_, ?_, ?_, ?_, ?_⟩
        · obtain ⟨g1, g2, g3, g4, g5, g6, g7, g8, g9, g10, g11, g12⟩ := h1
          refine ⟨g1, hsok.1, hsok.2, g4, g5, g6, g7, ?_, fun s' hs' => g9 s' (by rw [hu]; exact List.mem_cons_of_mem _ hs'), g10, g11, g12⟩
          show u.length ≤ 20
          omega
        · exact ⟨by rw [hF3.1 1 (by decide)]; exact h2.1, by rw [hF3.2.1 0 (by decide)]; exact h2.2⟩
        · rw [hF3.1 7 (by decide), hF3.1 8 (by decide)]; exact h3
        · rw [hF3.2.1 9 (by decide)]; exact h4
        · exact a1.eqv h1.1 (fun k hk => by rw [e52]; exact hc k (by omega))
        · show mKf (fA σ2 52) (zE s)
          exact a2.eqv (fun k _ hk => by rw [e52]; exact hc k hk)
        · exact ⟨by rw [hF3.1 71 (by decide)]; exact h8.1, by rw [hF3.2.1 72 (by decide)]; exact h8.2⟩
        · intro i s' hs'
          have hs' : u[i]? = some s' := hs'
          have hi := (List.getElem?_eq_some_iff.mp hs').1
          obtain ⟨b1, b2⟩ := u3 (i + 1) s' (by rw [hu]; exact hs')
          have e : ((w + 20 - 1) % 20 + 20 - i) % 20 = (w + 20 - (i + 1)) % 20 := by omega
          rw [e, hF3.2.1 75 (by decide)]
          exact ⟨b1, b2⟩
        · rw [hF3.2.2.2]; exact h10
        · exact ⟨by rw [hF3.1 113 (by decide)]; exact h11.1, by rw [hF3.2.1 112 (by decide)]; exact h11.2⟩
        · obtain ⟨sd, q1, q2⟩ := h12
          exact ⟨sd, q1, by rw [hF3.1 56 (by decide)]; exact q2⟩
        · rw [hF3.1 57 (by decide), hF3.1 60 (by decide)]; exact h13
        · exact h14.fm (fun a z => hF3.2.1 a (by simp; omega))
      | succ j ih =>
        intro k σ1 hj hk hF hc
        refine hX _ _ ?_
        rw [hF.1 77 (by decide), u2]
        simp (disch := omega) only [i_0, i_1, i_2, i_3, i_4, i_5, i_6, i_7, i_8, i_9, i_10, i_11, i_12, i_13, i_16, i_19, i_20, i_21, i_22, i_23, i_24, i_25, i_30, i_31, i_32, i_39, i_40, i_41, i_42, i_43, i_44, i_45, i_47, i_48, i_49, i_50, i_51, i_52, i_57, i_59, i_60, i_61, i_62, i_63, i_64, i_71, i_72, i_80, i_91, i_93, i_97, i_99, i_100, i_122, i_227, i_228, i_232, i_251, i_255, i_256, i_463, i_999, i_1000, i_1519, i_1600, i_9999, i_100000000, i_2147483639, i_2147483647, neg_nI1, nI_add, pk_mul, nI_remL, pk_sub, pk_div, nI_clamp, nI_leI, nI_ltI, nI_eq, vpT, nI_m1, m1_nI, nI_lem1, m1_le, m1_lt, nI_ltm1, nI_bit, nI_shl, nI_xor, nI_or, n_rem, forall_eq, true_and, and_true, implies_true, true_implies, false_implies, not_true_eq_false, not_false_eq_true, Nat.zero_add, Nat.add_zero, ite_true, ite_false, if_true, if_false, true_or, or_true, false_or, or_false, and_self, and_false, false_and, Nat.reduceEqDiff, reduceIte]
        refine ⟨fun z => by omega, fun _ => ih (k + 1) _ (by omega) (by omega) (hF.trans (Fm.sA σ1 _ _ (by decide))) (fun i hi => ?_)⟩
        by_cases z : i = k
        · subst z; rw [fA_sA, if_pos ⟨rfl, rfl⟩, hF.2.1 75 (by decide)]
        · rw [fA_sA, if_neg (by omega)]; exact hc i (by omega)
    exact key _ 0 σ rfl (by omega) (Fm.refl _ _ _ _) (fun i hi => by omega)
theorem ma_asks {σ : FS} {Z : Wd} {x y : Int32} {Q : Int32 → FS → Prop} (h : mAll σ Z) (hQ : ∀ σ', mAll σ' (opAsks Z x y).2 → Q (opAsks Z x y).1 σ') : mw_asks x y σ Q := by
  have hA := h
  obtain ⟨h1, h2, h3, h4, h5, h6, h7, h8, h9, h10, h11, h12, h13, h14⟩ := h
  unfold mw_asks mw_asks_17
  unfold opAsks at hQ
  refine ml_isPerson h5.pc h1.np.1 (fun p a b c => ?_) (fun a => ?_)
  · subst c
    simp (disch := omega) only [i_0, i_1, i_2, i_3, i_4, i_5, i_6, i_7, i_8, i_9, i_10, i_11, i_12, i_13, i_16, i_19, i_20, i_21, i_22, i_23, i_24, i_25, i_30, i_31, i_32, i_39, i_40, i_41, i_42, i_43, i_44, i_45, i_47, i_48, i_49, i_50, i_51, i_52, i_57, i_59, i_60, i_61, i_62, i_63, i_64, i_71, i_72, i_80, i_91, i_93, i_97, i_99, i_100, i_122, i_227, i_228, i_232, i_251, i_255, i_256, i_463, i_999, i_1000, i_1519, i_1600, i_9999, i_100000000, i_2147483639, i_2147483647, neg_nI1, nI_add, pk_mul, nI_remL, pk_sub, pk_div, nI_clamp, nI_leI, nI_ltI, nI_eq, vpT, nI_m1, m1_nI, nI_lem1, m1_le, m1_lt, nI_ltm1, nI_bit, nI_shl, nI_xor, nI_or, n_rem, forall_eq, true_and, and_true, implies_true, true_implies, false_implies, not_true_eq_false, not_false_eq_true, Nat.zero_add, Nat.add_zero, ite_true, ite_false, if_true, if_false, true_or, or_true, false_or, or_false, and_self, and_false, false_and, Nat.reduceEqDiff, reduceIte]
    refine ml_isTopic h5.pc h1.np.2.1 (fun t a1 b1 c1 => ?_) (fun a1 => ?_)
    · subst c1
      simp only [a, a1] at hQ
      simp (disch := omega) only [i_0, i_1, i_2, i_3, i_4, i_5, i_6, i_7, i_8, i_9, i_10, i_11, i_12, i_13, i_16, i_19, i_20, i_21, i_22, i_23, i_24, i_25, i_30, i_31, i_32, i_39, i_40, i_41, i_42, i_43, i_44, i_45, i_47, i_48, i_49, i_50, i_51, i_52, i_57, i_59, i_60, i_61, i_62, i_63, i_64, i_71, i_72, i_80, i_91, i_93, i_97, i_99, i_100, i_122, i_227, i_228, i_232, i_251, i_255, i_256, i_463, i_999, i_1000, i_1519, i_1600, i_9999, i_100000000, i_2147483639, i_2147483647, neg_nI1, nI_add, pk_mul, nI_remL, pk_sub, pk_div, nI_clamp, nI_leI, nI_ltI, nI_eq, vpT, nI_m1, m1_nI, nI_lem1, m1_le, m1_lt, nI_ltm1, nI_bit, nI_shl, nI_xor, nI_or, n_rem, forall_eq, true_and, and_true, implies_true, true_implies, false_implies, not_true_eq_false, not_false_eq_true, Nat.zero_add, Nat.add_zero, ite_true, ite_false, if_true, if_false, true_or, or_true, false_or, or_false, and_self, and_false, false_and, Nat.reduceEqDiff, reduceIte]
      refine ml_stores hA (fun σ1 hA1 _ => ?_)
      have hP := hA1.2.2.2.2.1.p (Or.inr (Or.inl (show 0 < nP (wP Z) by omega)))
      refine ml_isAsked (s := wS Z) (th := 0) (sil := 0) hP hA1.2.2.2.2.2.1 hA1.2.2.2.2.2.2.2.2.2.2.2.1 b b1 hA1.2.2.2.2.2.2.2.2.2.2.2.2.1.1 (by decide) hA1.2.2.2.2.2.2.2.2.2.2.2.2.1.2 (by decide) (fun _ => hA1.2.2.2.2.2.2.1) (fun σ2 hF2 hN2 hS2 _ _ => ?_)
      exact hQ σ2 (hA1.now (by rw [zAs_D]; exact h1.2.2.1) hF2 hN2.1 (hN2.2.1 rfl hA1.2.2.2.2.2.2.1) hS2)
    · simp only [a, a1] at hQ
      simp (disch := omega) only [i_0, i_1, i_2, i_3, i_4, i_5, i_6, i_7, i_8, i_9, i_10, i_11, i_12, i_13, i_16, i_19, i_20, i_21, i_22, i_23, i_24, i_25, i_30, i_31, i_32, i_39, i_40, i_41, i_42, i_43, i_44, i_45, i_47, i_48, i_49, i_50, i_51, i_52, i_57, i_59, i_60, i_61, i_62, i_63, i_64, i_71, i_72, i_80, i_91, i_93, i_97, i_99, i_100, i_122, i_227, i_228, i_232, i_251, i_255, i_256, i_463, i_999, i_1000, i_1519, i_1600, i_9999, i_100000000, i_2147483639, i_2147483647, neg_nI1, nI_add, pk_mul, nI_remL, pk_sub, pk_div, nI_clamp, nI_leI, nI_ltI, nI_eq, vpT, nI_m1, m1_nI, nI_lem1, m1_le, m1_lt, nI_ltm1, nI_bit, nI_shl, nI_xor, nI_or, n_rem, forall_eq, true_and, and_true, implies_true, true_implies, false_implies, not_true_eq_false, not_false_eq_true, Nat.zero_add, Nat.add_zero, ite_true, ite_false, if_true, if_false, true_or, or_true, false_or, or_false, and_self, and_false, false_and, Nat.reduceEqDiff, reduceIte]
      exact ml_refuses hA (by decide) hQ
  · simp only [a] at hQ
    simp (disch := omega) only [i_0, i_1, i_2, i_3, i_4, i_5, i_6, i_7, i_8, i_9, i_10, i_11, i_12, i_13, i_16, i_19, i_20, i_21, i_22, i_23, i_24, i_25, i_30, i_31, i_32, i_39, i_40, i_41, i_42, i_43, i_44, i_45, i_47, i_48, i_49, i_50, i_51, i_52, i_57, i_59, i_60, i_61, i_62, i_63, i_64, i_71, i_72, i_80, i_91, i_93, i_97, i_99, i_100, i_122, i_227, i_228, i_232, i_251, i_255, i_256, i_463, i_999, i_1000, i_1519, i_1600, i_9999, i_100000000, i_2147483639, i_2147483647, neg_nI1, nI_add, pk_mul, nI_remL, pk_sub, pk_div, nI_clamp, nI_leI, nI_ltI, nI_eq, vpT, nI_m1, m1_nI, nI_lem1, m1_le, m1_lt, nI_ltm1, nI_bit, nI_shl, nI_xor, nI_or, n_rem, forall_eq, true_and, and_true, implies_true, true_implies, false_implies, not_true_eq_false, not_false_eq_true, Nat.zero_add, Nat.add_zero, ite_true, ite_false, if_true, if_false, true_or, or_true, false_or, or_false, and_self, and_false, false_and, Nat.reduceEqDiff, reduceIte]
    exact ml_refuses hA (by decide) hQ
