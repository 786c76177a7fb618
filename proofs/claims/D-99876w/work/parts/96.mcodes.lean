/-! THE REFERENCE: codes told -/
def Cp (u : Nat) (σ0 σ : FS) (j : Nat) : Prop := Fm [48] [47] [] σ0 σ ∧ fI σ 0 48 = nI (u + j) ∧ ∀ i, fA σ 47 i = if u ≤ i ∧ i < u + j then fA σ0 102 (i - u) else fA σ0 47 i
theorem ml_copy {σ0 : FS} {u L i : Nat} {Q : FS → Prop} (hi : i < 3) (h103 : fI σ0 0 103 = nI L) (hL : u + L ≤ 1600) (hQ : ∀ σ, Cp u σ0 σ L → Q (sA σ 46 i (nI (u + L)))) : ∀ (σ : FS), Cp u σ0 σ 0 → mw_codesTold_100 (nI i) (nI 0) σ Q := by
  intro σ h
  unfold mw_codesTold_100
  intro X hX
  have key : ∀ m j σ, j + m = L → Cp u σ0 σ j → X (nI i) (nI j) σ := by
    intro m
    induction m with
    | zero =>
      intro j σ hj hc
      refine hX _ _ _ ?_
      have hjL : j = L := by omega
      rw [hc.1.1 103 (by decide), h103, hc.2.1]
      simp (disch := omega) only [i_0, i_1, i_2, i_3, i_4, i_5, i_6, i_7, i_8, i_9, i_10, i_11, i_12, i_13, i_16, i_19, i_20, i_21, i_22, i_23, i_24, i_25, i_30, i_31, i_32, i_39, i_40, i_41, i_42, i_43, i_44, i_45, i_47, i_48, i_49, i_50, i_51, i_52, i_57, i_59, i_60, i_61, i_62, i_63, i_64, i_71, i_72, i_80, i_91, i_93, i_97, i_99, i_100, i_122, i_227, i_228, i_232, i_251, i_255, i_256, i_463, i_999, i_1000, i_1519, i_1600, i_9999, i_100000000, i_2147483639, i_2147483647, neg_nI1, nI_add, pk_mul, nI_remL, pk_sub, pk_div, nI_clamp, nI_leI, nI_ltI, nI_eq, vpT, nI_m1, m1_nI, nI_lem1, m1_le, m1_lt, nI_ltm1, nI_bit, nI_shl, nI_xor, nI_or, n_rem, forall_eq, true_and, and_true, implies_true, true_implies, false_implies, not_true_eq_false, not_false_eq_true, Nat.zero_add, Nat.add_zero, ite_true, ite_false, if_true, if_false, true_or, or_true, false_or, or_false, and_self, and_false, false_and, Nat.reduceEqDiff, reduceIte]
      refine ⟨fun _ => ?_, fun z => by omega⟩
      rw [hjL] at hc ⊢
      exact hQ σ hc
    | succ m ih =>
      intro j σ hj hc
      refine hX _ _ _ ?_
      rw [hc.1.1 103 (by decide), h103, hc.2.1]
      simp (disch := omega) only [i_0, i_1, i_2, i_3, i_4, i_5, i_6, i_7, i_8, i_9, i_10, i_11, i_12, i_13, i_16, i_19, i_20, i_21, i_22, i_23, i_24, i_25, i_30, i_31, i_32, i_39, i_40, i_41, i_42, i_43, i_44, i_45, i_47, i_48, i_49, i_50, i_51, i_52, i_57, i_59, i_60, i_61, i_62, i_63, i_64, i_71, i_72, i_80, i_91, i_93, i_97, i_99, i_100, i_122, i_227, i_228, i_232, i_251, i_255, i_256, i_463, i_999, i_1000, i_1519, i_1600, i_9999, i_100000000, i_2147483639, i_2147483647, neg_nI1, nI_add, pk_mul, nI_remL, pk_sub, pk_div, nI_clamp, nI_leI, nI_ltI, nI_eq, vpT, nI_m1, m1_nI, nI_lem1, m1_le, m1_lt, nI_ltm1, nI_bit, nI_shl, nI_xor, nI_or, n_rem, forall_eq, true_and, and_true, implies_true, true_implies, false_implies, not_true_eq_false, not_false_eq_true, Nat.zero_add, Nat.add_zero, ite_true, ite_false, if_true, if_false, true_or, or_true, false_or, or_false, and_self, and_false, false_and, Nat.reduceEqDiff, reduceIte]
      refine ⟨fun z => by omega, fun _ => ?_⟩
      rw [show fI (sA σ 47 (u + j) (fA σ 102 j)) 0 48 = nI (u + j) from hc.2.1]
      simp (disch := omega) only [i_0, i_1, i_2, i_3, i_4, i_5, i_6, i_7, i_8, i_9, i_10, i_11, i_12, i_13, i_16, i_19, i_20, i_21, i_22, i_23, i_24, i_25, i_30, i_31, i_32, i_39, i_40, i_41, i_42, i_43, i_44, i_45, i_47, i_48, i_49, i_50, i_51, i_52, i_57, i_59, i_60, i_61, i_62, i_63, i_64, i_71, i_72, i_80, i_91, i_93, i_97, i_99, i_100, i_122, i_227, i_228, i_232, i_251, i_255, i_256, i_463, i_999, i_1000, i_1519, i_1600, i_9999, i_100000000, i_2147483639, i_2147483647, neg_nI1, nI_add, pk_mul, nI_remL, pk_sub, pk_div, nI_clamp, nI_leI, nI_ltI, nI_eq, vpT, nI_m1, m1_nI, nI_lem1, m1_le, m1_lt, nI_ltm1, nI_bit, nI_shl, nI_xor, nI_or, n_rem, forall_eq, true_and, and_true, implies_true, true_implies, false_implies, not_true_eq_false, not_false_eq_true, Nat.zero_add, Nat.add_zero, ite_true, ite_false, if_true, if_false, true_or, or_true, false_or, or_false, and_self, and_false, false_and, Nat.reduceEqDiff, reduceIte]
      refine ih (j + 1) _ (by omega) ⟨(hc.1.trans (Fm.sA σ _ _ (by decide))).trans (Fm.sI _ _ (by decide)), by rw [fI_sI]; simp; congr 1, fun k => ?_⟩
      rw [fA_sI, fA_sA]
      by_cases z : k = u + j
      · rw [if_pos ⟨rfl, z⟩, if_pos ⟨by omega, by omega⟩, hc.1.2.1 102 (by decide), z, show u + j - u = j by omega]
      · rw [if_neg (fun q => z q.2), hc.2.2 k]
        by_cases z2 : u ≤ k ∧ k < u + j
        · rw [if_pos z2, if_pos ⟨z2.1, by omega⟩]
        · rw [if_neg z2, if_neg (by omega)]
  exact key L 0 σ (by omega) h
theorem cdM.one {σ : FS} {u w : Nat} {o : Option (List Nat)} (h : cdM σ u w o) (hu : u ≤ 1600) : (fA σ 45 w = M1 → o = none) ∧ (o = none → fA σ 45 w = M1) := by
  cases o with
  | none => exact ⟨fun _ => rfl, fun _ => h⟩
  | some cs =>
    obtain ⟨f, h1, h2, h3, h4⟩ := h
    refine ⟨fun z => ?_, fun z => by cases z⟩
    rw [h1, nI_m1 (by omega)] at z
    exact z.elim
theorem Dm.cd {σ : FS} {D : Dr} {n u : Nat} (h : Dm σ D n u) {i : Nat} (hi : i < 3) : cdM σ u i (cdO D.1 i) := by
  have h8 := h.2.2.2.2.2.2.2
  have : i = 0 ∨ i = 1 ∨ i = 2 := by omega
  rcases this with rfl | rfl | rfl
  · exact h8.1
  · exact h8.2.1
  · exact h8.2.2
/-- codes for the i-th, copied behind the others -/
theorem cdM.keep {σ σ' : FS} {u u' w : Nat} {o : Option (List Nat)} (h : cdM σ u w o) (hu : u ≤ u') (e1 : fA σ' 45 w = fA σ 45 w) (e2 : fA σ' 46 w = fA σ 46 w) (e3 : ∀ k, k < u → fA σ' 47 k = fA σ 47 k) : cdM σ' u' w o := by
  cases o with
  | none => unfold cdM at h ⊢; rw [e1]; exact h
  | some cs =>
    obtain ⟨f, h1, h2, h3, h4⟩ := h
    refine ⟨f, by rw [e1]; exact h1, by rw [e2]; exact h2, by omega, fun k c hk => ?_⟩
    have := (List.getElem?_eq_some_iff.mp hk).1
    rw [e3 _ (by omega)]; exact h4 k c hk
theorem pCds_adv {i : Nat} {t : Nat → Nat} {e a b : Nat} {cs : List Nat} (ha : a ≤ e) (h : pCds i t e a = .inl (cs, b)) : (a < b ∧ a + cs.length ≤ b) ∧ b ≤ e := by
  unfold pCds at h
  split at h
  · exact adv_test (adv_fact _ _ _ _) _ _ _ ha h
  · exact adv_sum (adv_atom _ _ _ _) _ _ _ ha h
theorem alK_0 : alK 0 = al0 := rfl
theorem alK_1 : alK 1 = al1 := rfl
theorem setC_ok {D : Dr} {i : Nat} {t : Nat → Nat} {e a b : Nat} {cs : List Nat} (hi : i < 3) (hd : drOK D) (h : pCds i t e a = .inl (cs, b)) (hl : cs.length ≤ 1600) : drOK (setC D.1 i cs, D.2) := by
  obtain ⟨⟨g1, g2, g3, g4, g5, g6, g7, g8, g9, g10⟩, s, w1⟩ := hd
  have : i = 0 ∨ i = 1 ∨ i = 2 := by omega
  rcases this with rfl | rfl | rfl
  · exact ⟨⟨g1, g2, g3, g4, g5, g6, g7, fun c hc => by cases hc; exact ⟨ty_sum (ty_atom al1 t e 6) _ _ _ h [], hl⟩, g9, g10⟩, s, w1⟩
  · exact ⟨⟨g1, g2, g3, g4, g5, g6, g7, g8, (fun c hc => by cases hc; exact ⟨ty_sum (ty_atom al0 t e 6) _ _ _ h [], hl⟩), g10⟩, s, w1⟩
  · exact ⟨⟨g1, g2, g3, g4, g5, g6, g7, g8, g9, fun c hc => by cases hc; exact ⟨ty_test (ty_fact al0 t e 6) _ _ _ h [], hl⟩⟩, s, w1⟩
theorem ml_codes {σ0 σ : FS} {t : Nat → Nat} {e a n u i pl : Nat} {D : Dr} {Q : FS → Prop} (hi : i < 3) (h : Tok σ t e a) (hD : Dm σ D n u) (hd : drOK D) (hn : n < 80) (hu : u ≤ a) (hP : Pf σ0 σ)
    (ho : ∀ D' b, pCode D i pl t e a = .inl (D', b) → ∀ σ' u', Pf σ0 σ' → Tok σ' t e b → Dm σ' D' (n + 1) u' → u' ≤ b → drOK D' → Q σ') (hx : ∀ q, pCode D i pl t e a = .inr q → ∀ σ', Pf σ0 σ' → Bd σ' q → Q σ') : mw_codesTold (nI i) (nI pl) σ (fun σ28 => mw_statementTold_195 σ28 Q) := by
  have hu16 := hD.1.2.2.2
  have hcd := hD.cd hi
  have hone := hcd.one hu16
  have bad : ∀ q, pCode D i pl t e a = .inr q → ∀ σ1, Pf σ σ1 → Bd σ1 q → mw_statementTold_195 σ1 Q := fun q hp σ1 hF1 hB1 => ml_finB hB1 (hP.trans hF1) (fun σ' hP' hB' => hx q hp σ' hP' hB')
  unfold mw_codesTold
  refine ⟨fun z => absurd h.2.2.2.1 z, fun _ => ?_⟩
  simp (disch := omega) only [i_0, i_1, i_2, i_3, i_4, i_5, i_6, i_7, i_8, i_9, i_10, i_11, i_12, i_13, i_16, i_19, i_20, i_21, i_22, i_23, i_24, i_25, i_30, i_31, i_32, i_39, i_40, i_41, i_42, i_43, i_44, i_45, i_47, i_48, i_49, i_50, i_51, i_52, i_57, i_59, i_60, i_61, i_62, i_63, i_64, i_71, i_72, i_80, i_91, i_93, i_97, i_99, i_100, i_122, i_227, i_228, i_232, i_251, i_255, i_256, i_463, i_999, i_1000, i_1519, i_1600, i_9999, i_100000000, i_2147483639, i_2147483647, neg_nI1, nI_add, pk_mul, nI_remL, pk_sub, pk_div, nI_clamp, nI_leI, nI_ltI, nI_eq, vpT, nI_m1, m1_nI, nI_lem1, m1_le, m1_lt, nI_ltm1, nI_bit, nI_shl, nI_xor, nI_or, n_rem, forall_eq, true_and, and_true, implies_true, true_implies, false_implies, not_true_eq_false, not_false_eq_true, Nat.zero_add, Nat.add_zero, ite_true, ite_false, if_true, if_false, true_or, or_true, false_or, or_false, and_self, and_false, false_and, Nat.reduceEqDiff, reduceIte]
  by_cases hnone : cdO D.1 i = none
  · rw [hone.2 hnone]
    refine ⟨fun _ => ?_, fun z => absurd rfl z⟩
    have hpt : pCode D i pl t e a = pB (pCds i t e a) (fun cs b => pFin (setC D.1 i cs, D.2) t e b) := by unfold pCode; rw [if_neg (by rw [hnone]; simp)]
    have hkd : ∀ kd, kd = (if i = 0 then 1 else 0) → mw_codesTold_41 (nI i) (nI kd) σ (fun σ28 => mw_statementTold_195 σ28 Q) := by
      intro kd hkd
      have hkd3 : kd < 3 := by rw [hkd]; split <;> decide
      unfold mw_codesTold_41
      simp only [forall_eq]
      have hF6 : Fm [51, 103, 105, 106, 107] [] [] σ (sI (sI (sI (sI (sI σ 0 51 (nI kd)) 0 103 (nI 0)) 0 105 (nI 0)) 0 106 (nI 0)) 0 107 (nI 0)) := ((((Fm.sI σ _ (by decide)).trans (Fm.sI _ _ (by decide))).trans (Fm.sI _ _ (by decide))).trans (Fm.sI _ _ (by decide))).trans (Fm.sI _ _ (by decide))
      have h51 : fI (sI (sI (sI (sI (sI σ 0 51 (nI kd)) 0 103 (nI 0)) 0 105 (nI 0)) 0 106 (nI 0)) 0 107 (nI 0)) 0 51 = nI kd := by simp [fI_sI]
      have hX6 : Xs (sI (sI (sI (sI (sI σ 0 51 (nI kd)) 0 103 (nI 0)) 0 105 (nI 0)) 0 106 (nI 0)) 0 107 (nI 0)) t e a [] [] 0 0 := ⟨h.fm hF6 (by decide) (by simp), ⟨by simp [fI_sI], fun i c hc => by simp at hc⟩, ⟨by simp [fI_sI], trivial⟩, ⟨by simp [fI_sI], by decide⟩, by simp [fI_sI], by simp⟩
      have hD6 : Dm (sI (sI (sI (sI (sI σ 0 51 (nI kd)) 0 103 (nI 0)) 0 105 (nI 0)) 0 106 (nI 0)) 0 107 (nI 0)) D n u := by
        obtain ⟨h1, h2, h3, h4, h5, h6, h7', h8⟩ := hD
        exact ⟨⟨by rw [hF6.1 49 (by decide)]; exact h1.1, h1.2.1, by rw [hF6.1 48 (by decide)]; exact h1.2.2.1, h1.2.2.2⟩, h2, h3, h4, h5, h6, h7', ⟨h8.1.eqv rfl rfl rfl, h8.2.1.eqv rfl rfl rfl, h8.2.2.eqv rfl rfl rfl⟩⟩
      have hPf6 : Pf σ (sI (sI (sI (sI (sI σ 0 51 (nI kd)) 0 103 (nI 0)) 0 105 (nI 0)) 0 106 (nI 0)) 0 107 (nI 0)) := Pf.ofFm hF6 (by decide) (by decide)
      clear hF6
      show (_ → mw_qSums (sI (sI (sI (sI (sI σ 0 51 (nI kd)) 0 103 (nI 0)) 0 105 (nI 0)) 0 106 (nI 0)) 0 107 (nI 0)) _) ∧ (_ → mw_qTest (sI (sI (sI (sI (sI σ 0 51 (nI kd)) 0 103 (nI 0)) 0 105 (nI 0)) 0 106 (nI 0)) 0 107 (nI 0)) _)
      revert h51 hX6 hD6 hPf6
      generalize sI (sI (sI (sI (sI σ 0 51 (nI kd)) 0 103 (nI 0)) 0 105 (nI 0)) 0 106 (nI 0)) 0 107 (nI 0) = σ6
      intro h51 hX6 hD6 hPf6
      have fin : ∀ cs b, pCds i t e a = .inl (cs, b) → ∀ σ7, FQ σ6 σ7 → Xs σ7 t e b ([] ++ cs) [] 0 0 → mw_codesTold_80 (nI i) σ7 (fun σ28 => mw_statementTold_195 σ28 Q) := by
        intro cs b hp σ7 hF7 hX7
        rw [List.nil_append] at hX7
        have hadv := pCds_adv h.2.2.1 hp
        have hle := hX7.1.le
        have hD7 := hD6.q hF7
        rw [hp, pB_inl] at hpt
        simp only at hpt
        unfold mw_codesTold_80
        refine ⟨fun _ => ?_, fun z => absurd hX7.1.2.2.2.1 z⟩
        simp (disch := omega) only [i_0, i_1, i_2, i_3, i_4, i_5, i_6, i_7, i_8, i_9, i_10, i_11, i_12, i_13, i_16, i_19, i_20, i_21, i_22, i_23, i_24, i_25, i_30, i_31, i_32, i_39, i_40, i_41, i_42, i_43, i_44, i_45, i_47, i_48, i_49, i_50, i_51, i_52, i_57, i_59, i_60, i_61, i_62, i_63, i_64, i_71, i_72, i_80, i_91, i_93, i_97, i_99, i_100, i_122, i_227, i_228, i_232, i_251, i_255, i_256, i_463, i_999, i_1000, i_1519, i_1600, i_9999, i_100000000, i_2147483639, i_2147483647, neg_nI1, nI_add, pk_mul, nI_remL, pk_sub, pk_div, nI_clamp, nI_leI, nI_ltI, nI_eq, vpT, nI_m1, m1_nI, nI_lem1, m1_le, m1_lt, nI_ltm1, nI_bit, nI_shl, nI_xor, nI_or, n_rem, forall_eq, true_and, and_true, implies_true, true_implies, false_implies, not_true_eq_false, not_false_eq_true, Nat.zero_add, Nat.add_zero, ite_true, ite_false, if_true, if_false, true_or, or_true, false_or, or_false, and_self, and_false, false_and, Nat.reduceEqDiff, reduceIte]
        rw [hD7.1.2.2.1]
        have hF8 : Fm [] [45] [] σ7 (sA σ7 45 i (nI u)) := Fm.sA σ7 _ _ (by decide)
        refine ml_copy (σ0 := sA σ7 45 i (nI u)) (u := u) (L := cs.length) hi hX7.2.1.1 (by omega) (fun σ9 hc => ?_) _ ⟨Fm.refl _ _ _ _, hD7.1.2.2.1, fun k => by rw [if_neg (by omega)]⟩
        have hF9 : Fm [48] [45, 46, 47] [] σ7 (sA σ9 46 i (nI (u + cs.length))) := (hF8.wide (by decide) (by decide) (by decide)).trans ((hc.1.wide (by decide) (by decide) (by decide)).trans (Fm.sA _ _ _ (by decide)))
        have a45 : ∀ k, fA (sA σ9 46 i (nI (u + cs.length))) 45 k = if k = i then nI u else fA σ7 45 k := by
          intro k
          rw [fA_sA, if_neg (by omega), hc.1.2.1 45 (by decide), fA_sA]
          by_cases z : k = i
          · rw [if_pos ⟨rfl, z⟩, if_pos z]
          · rw [if_neg (fun q => z q.2), if_neg z]
        have a46 : ∀ k, fA (sA σ9 46 i (nI (u + cs.length))) 46 k = if k = i then nI (u + cs.length) else fA σ7 46 k := by
          intro k
          rw [fA_sA, hc.1.2.1 46 (by decide), fA_sA]
          by_cases z : k = i
          · rw [if_pos ⟨rfl, z⟩, if_pos z]
          · rw [if_neg (fun q => z q.2), if_neg z, if_neg (by omega)]
        have a47 : ∀ k, fA (sA σ9 46 i (nI (u + cs.length))) 47 k = if u ≤ k ∧ k < u + cs.length then fA σ7 102 (k - u) else fA σ7 47 k := by
          intro k
          rw [fA_sA, if_neg (by omega), hc.2.2 k]
          rfl
        have h48 : fI (sA σ9 46 i (nI (u + cs.length))) 0 48 = nI (u + cs.length) := by rw [fI_sA]; exact hc.2.1
        have hPf9 : Pf σ7 (sA σ9 46 i (nI (u + cs.length))) := by
          refine ⟨hF9.wide (by decide) (by decide) (by decide), fun k hk => ⟨?_, ?_, ?_, ?_⟩, fun k hk => ?_, fun k hk => ?_, fun k hk => ?_⟩
          · rw [hF9.2.1 39 (by decide)]
          · rw [hF9.2.1 40 (by decide)]
          · rw [a45, if_neg (by omega)]
          · rw [a46, if_neg (by omega)]
          · rw [hF9.2.1 44 (by decide)]
          · rw [a47, if_neg (by omega)]
          · rw [hF9.2.2.1 41 (by simp)]
        have hDm : Dm (sA σ9 46 i (nI (u + cs.length))) (setC D.1 i cs, D.2) n (u + cs.length) := by
          obtain ⟨h1, h2, h3, h4, h5, h6, h7', h8⟩ := hD7
          have g : ∀ a, a ∉ ([45, 46, 47] : List Nat) → fA (sA σ9 46 i (nI (u + cs.length))) a = fA σ7 a := hF9.2.1
          have new : cdM (sA σ9 46 i (nI (u + cs.length))) (u + cs.length) i (some cs) := ⟨u, by rw [a45, if_pos rfl], by rw [a46, if_pos rfl], by omega, fun k c hk => by
            have := (List.getElem?_eq_some_iff.mp hk).1
            rw [a47, if_pos ⟨by omega, by omega⟩, show u + k - u = k by omega]
            exact hX7.2.1.2 k c hk⟩
          have old : ∀ w o, w ≠ i → cdM σ7 u w o → cdM (sA σ9 46 i (nI (u + cs.length))) (u + cs.length) w o := fun w o hw ho => ho.keep (by omega) (by rw [a45, if_neg hw]) (by rw [a46, if_neg hw]) (fun k hk => by rw [a47, if_neg (by omega)])
          refine ⟨⟨by rw [hF9.1 49 (by decide)]; exact h1.1, h1.2.1, h48, by omega⟩, ?_, ?_, ?_, ?_, ?_, ?_, ?_⟩
          · rw [g 39 (by decide)]; exact h2
          · rw [g 40 (by decide)]; exact h3
          · rw [hF9.2.2.1 41 (by simp)]; exact h4
          · rw [g 42 (by decide)]; exact h5
          · rw [g 43 (by decide)]; exact h6
          · rw [g 44 (by decide)]; exact h7'
          · have h012 : i = 0 ∨ i = 1 ∨ i = 2 := by omega
            rcases h012 with rfl | rfl | rfl
            · exact ⟨new, old 1 _ (by decide) h8.2.1, old 2 _ (by decide) h8.2.2⟩
            · exact ⟨old 0 _ (by decide) h8.1, new, old 2 _ (by decide) h8.2.2⟩
            · exact ⟨old 0 _ (by decide) h8.1, old 1 _ (by decide) h8.2.1, new⟩
        refine ml_fin (D := (setC D.1 i cs, D.2)) (u := u + cs.length) (hX7.1.fm hF9 (by decide) (by decide)) hDm hn (by omega) (hP.trans (hPf6.trans ((FQ.p hF7).trans hPf9))) (fun b' hf σ' hP' hT' hD' hu' => ho _ b' (by rw [hpt]; exact hf) σ' _ hP' hT' hD' hu' (setC_ok hi hd hp (by omega))) (fun q hf => hx q (by rw [hpt]; exact hf))
      have finB : ∀ q, pCds i t e a = .inr q → ∀ σ7, FQ σ6 σ7 → Bd σ7 q → mw_codesTold_80 (nI i) σ7 (fun σ28 => mw_statementTold_195 σ28 Q) := by
        intro q hp σ7 hF7 hB7
        unfold mw_codesTold_80
        exact ⟨fun z => absurd z hB7.ne, fun _ => bad q (by rw [hpt, hp]; rfl) σ7 (hPf6.trans (FQ.p hF7)) hB7⟩
      refine ⟨fun hi2 => ?_, fun hi2 => ?_⟩
      · have hne2 : i ≠ 2 := fun z => hi2 (by rw [z]; rfl)
        have hpc : pCds i t e a = pSum (pAtom (alK kd) t e 6) t e a := by unfold pCds; rw [if_neg hne2, hkd]
        refine ml_qSums hX6 h51 hkd3 (fun x U' he => by cases he) (fun cs b hp σ7 hF7 hX7 => fin cs b (by rw [hpc]; exact hp) σ7 hF7 hX7) (fun q hp σ7 hF7 hB7 => finB q (by rw [hpc]; exact hp) σ7 hF7 hB7.1)
      · have h2 : i = 2 := by
          have z : nI i = nI 2 := hi2
          simp (disch := omega) only [nI_eq] at z
          exact z
        subst h2
        have hk0 : kd = 0 := by rw [hkd]; rfl
        subst hk0
        refine ml_qTest hX6 h51 hkd3 (fun cs b hp σ7 hF7 hX7 => fin cs b hp σ7 hF7 hX7) (fun q hp σ7 hF7 hB7 => finB q hp σ7 hF7 hB7)
    unfold mw_codesTold_23
    refine ⟨fun _ => ⟨fun z => ?_, fun z => ?_⟩, fun z => absurd h.2.2.2.1 z⟩
    · exact hkd 0 (by
        have : i ≠ 0 := fun q => z (by rw [q]; rfl)
        rw [if_neg this])
    · exact hkd 1 (by
        have zz : nI i = nI 0 := z
        simp (disch := omega) only [nI_eq] at zz
        rw [if_pos zz])
  · refine ⟨fun z => absurd (hone.1 z) hnone, fun _ => ?_⟩
    refine ml_fail (q := (5, pl)) h.2.2.2.1 (by simp) (fun σ1 hF1 hB1 => ?_)
    unfold mw_codesTold_23
    refine ⟨fun z => absurd z hB1.ne, fun _ => bad (5, pl) ?_ σ1 (Pf.ofFm hF1 (by decide) (by decide)) hB1⟩
    unfold pCode
    rw [if_pos (by cases hq : cdO D.1 i with
      | none => exact absurd hq hnone
      | some c => rfl)]
