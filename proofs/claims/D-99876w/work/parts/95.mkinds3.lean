/-! THE REFERENCE: knowledge, lists, the crowd -/
theorem ml_know {σ0 σ : FS} {t : Nat → Nat} {e a n u : Nat} {D : Dr} {Q : FS → Prop} (h : Tok σ t e a) (hD : Dm σ D n u) (hd : drOK D) (hn : n < 80) (hu : u ≤ a) (hP : Pf σ0 σ)
    (ho : ∀ D' b, pKnow D t e a = .inl (D', b) → ∀ σ' u', Pf σ0 σ' → Tok σ' t e b → Dm σ' D' (n + 1) u' → u' ≤ b → drOK D' → Q σ') (hx : ∀ q, pKnow D t e a = .inr q → ∀ σ', Pf σ0 σ' → Bd σ' q → Q σ') : mw_knowsTold σ (fun σ28 => mw_statementTold_195 σ28 Q) := by
  have h7 := hd.1.2.2.2.2.1
  have h5 := hd.1.2.2.2.1
  have bad : ∀ q, pKnow D t e a = .inr q → ∀ σ1, FT σ σ1 → Bd σ1 q → ∀ x y, mw_knowsTold_54 x y σ1 (fun σ28 => mw_statementTold_195 σ28 Q) := fun q hp σ1 hF1 hB1 x y => ⟨fun _ => ml_finB hB1 (hP.trans (FT.p hF1)) (fun σ' hP' hB' => hx q hp σ' hP' hB'), fun z => absurd z hB1.ne⟩
  unfold mw_knowsTold
  refine ml_named (i := 1) h (hD.nn hd) (fun p f1 b1 hp1 hpl σ1 hF1 hT1 h381 => ?_) (fun q hp1 σ1 r hF1 hB1 => ml_needsB hB1 (ml_namedB (i := 0) hB1 ((hD.t hF1).nt hd) (fun r2 => ⟨fun _ => bad q (by unfold pKnow; rw [hp1]; rfl) σ1 hF1 hB1 _ _, fun z => absurd z hB1.ne⟩)))
  refine ml_needs (k := 19) hT1 (by unfold mok; decide) (by decide) (by decide) (fun b2 σ2 hp2 hF2 hT2 => ?_) (fun q σ2 hp2 hF2 hB2 => ml_namedB (i := 0) hB2 ((hD.t (hF1.trans hF2)).nt hd) (fun r2 => ⟨fun _ => bad q (by unfold pKnow; rw [hp1, pB_inl]; simp only; rw [hp2]; rfl) σ2 (hF1.trans hF2) hB2 _ _, fun z => absurd z hB2.ne⟩))
  have hF02 := hF1.trans hF2
  refine ml_named (i := 0) hT2 ((hD.t hF02).nt hd) (fun k f3 b3 hp3 hkl σ3 hF3 hT3 h383 => ?_) (fun q hp3 σ3 r hF3 hB3 => ⟨fun _ => bad q (by unfold pKnow; rw [hp1, pB_inl]; simp only; rw [hp2, pB_inl]; simp only; rw [hp3]; rfl) σ3 (hF02.trans hF3) hB3 _ _, fun z => absurd z hB3.ne⟩)
  have hF03 := hF02.trans hF3
  have hD3 := hD.t hF03
  have hpk : pKnow D t e a = if dK D p / 2 ^ k % 2 = 1 then .inr (3, f3) else pFin (D.1, dH D, dA D, dT D, up (dK D) p (dK D p ||| 2 ^ k)) t e b3 := by
    unfold pKnow; rw [hp1, pB_inl]; simp only; rw [hp2, pB_inl]; simp only; rw [hp3]; rfl
  have q1 := pOf_ok h.2.2.1 hp1
  have q2 := pExp_ok hT1.2.2.1 hp2
  have q3 := pOf_ok hT2.2.2.1 hp3
  have hpN : p < nP D.1 := hpl
  have hkT : k < nT D.1 := hkl
  have hK := (hd.2.1.2.2.1 p hpN).2.2
  have hK32 : dK D p < 32 := Nat.lt_of_lt_of_le hK (Nat.le_trans (Nat.pow_le_pow_right (by decide) h5) (by decide))
  refine ⟨fun z => absurd hT3.2.2.2.1 z, fun _ => ?_⟩
  have h43 := (hD3.2.2.2.2.2.1 p hpN).2.2
  have hbit : dK D p / 2 ^ k % 2 < 2 := Nat.mod_lt _ (by decide)
  simp (disch := omega) only [i_0, i_1, i_2, i_3, i_4, i_5, i_6, i_7, i_8, i_9, i_10, i_11, i_12, i_13, i_16, i_19, i_20, i_21, i_22, i_23, i_24, i_25, i_30, i_31, i_32, i_39, i_40, i_41, i_42, i_43, i_44, i_45, i_47, i_48, i_49, i_50, i_51, i_52, i_57, i_59, i_60, i_61, i_62, i_63, i_64, i_71, i_72, i_80, i_91, i_93, i_97, i_99, i_100, i_122, i_227, i_228, i_232, i_251, i_255, i_256, i_463, i_999, i_1000, i_1519, i_1600, i_9999, i_100000000, i_2147483639, i_2147483647, neg_nI1, nI_add, pk_mul, nI_remL, pk_sub, pk_div, nI_clamp, nI_leI, nI_ltI, nI_eq, vpT, nI_m1, m1_nI, nI_lem1, m1_le, m1_lt, nI_ltm1, nI_bit, nI_shl, nI_xor, nI_or, n_rem, forall_eq, true_and, and_true, implies_true, true_implies, false_implies, not_true_eq_false, not_false_eq_true, Nat.zero_add, Nat.add_zero, ite_true, ite_false, if_true, if_false, true_or, or_true, false_or, or_false, and_self, and_false, false_and, Nat.reduceEqDiff, reduceIte]
  rw [h43]
  simp (disch := omega) only [i_0, i_1, i_2, i_3, i_4, i_5, i_6, i_7, i_8, i_9, i_10, i_11, i_12, i_13, i_16, i_19, i_20, i_21, i_22, i_23, i_24, i_25, i_30, i_31, i_32, i_39, i_40, i_41, i_42, i_43, i_44, i_45, i_47, i_48, i_49, i_50, i_51, i_52, i_57, i_59, i_60, i_61, i_62, i_63, i_64, i_71, i_72, i_80, i_91, i_93, i_97, i_99, i_100, i_122, i_227, i_228, i_232, i_251, i_255, i_256, i_463, i_999, i_1000, i_1519, i_1600, i_9999, i_100000000, i_2147483639, i_2147483647, neg_nI1, nI_add, pk_mul, nI_remL, pk_sub, pk_div, nI_clamp, nI_leI, nI_ltI, nI_eq, vpT, nI_m1, m1_nI, nI_lem1, m1_le, m1_lt, nI_ltm1, nI_bit, nI_shl, nI_xor, nI_or, n_rem, forall_eq, true_and, and_true, implies_true, true_implies, false_implies, not_true_eq_false, not_false_eq_true, Nat.zero_add, Nat.add_zero, ite_true, ite_false, if_true, if_false, true_or, or_true, false_or, or_false, and_self, and_false, false_and, Nat.reduceEqDiff, reduceIte]
  refine ⟨fun z => ?_, fun z => ?_⟩
  · rw [if_neg z] at hpk
    unfold mw_knowsTold_54
    refine ⟨fun z => absurd hT3.2.2.2.1 z, fun _ => ?_⟩
    simp (disch := omega) only [i_0, i_1, i_2, i_3, i_4, i_5, i_6, i_7, i_8, i_9, i_10, i_11, i_12, i_13, i_16, i_19, i_20, i_21, i_22, i_23, i_24, i_25, i_30, i_31, i_32, i_39, i_40, i_41, i_42, i_43, i_44, i_45, i_47, i_48, i_49, i_50, i_51, i_52, i_57, i_59, i_60, i_61, i_62, i_63, i_64, i_71, i_72, i_80, i_91, i_93, i_97, i_99, i_100, i_122, i_227, i_228, i_232, i_251, i_255, i_256, i_463, i_999, i_1000, i_1519, i_1600, i_9999, i_100000000, i_2147483639, i_2147483647, neg_nI1, nI_add, pk_mul, nI_remL, pk_sub, pk_div, nI_clamp, nI_leI, nI_ltI, nI_eq, vpT, nI_m1, m1_nI, nI_lem1, m1_le, m1_lt, nI_ltm1, nI_bit, nI_shl, nI_xor, nI_or, n_rem, forall_eq, true_and, and_true, implies_true, true_implies, false_implies, not_true_eq_false, not_false_eq_true, Nat.zero_add, Nat.add_zero, ite_true, ite_false, if_true, if_false, true_or, or_true, false_or, or_false, and_self, and_false, false_and, Nat.reduceEqDiff, reduceIte]
    rw [h43]
    simp (disch := omega) only [i_0, i_1, i_2, i_3, i_4, i_5, i_6, i_7, i_8, i_9, i_10, i_11, i_12, i_13, i_16, i_19, i_20, i_21, i_22, i_23, i_24, i_25, i_30, i_31, i_32, i_39, i_40, i_41, i_42, i_43, i_44, i_45, i_47, i_48, i_49, i_50, i_51, i_52, i_57, i_59, i_60, i_61, i_62, i_63, i_64, i_71, i_72, i_80, i_91, i_93, i_97, i_99, i_100, i_122, i_227, i_228, i_232, i_251, i_255, i_256, i_463, i_999, i_1000, i_1519, i_1600, i_9999, i_100000000, i_2147483639, i_2147483647, neg_nI1, nI_add, pk_mul, nI_remL, pk_sub, pk_div, nI_clamp, nI_leI, nI_ltI, nI_eq, vpT, nI_m1, m1_nI, nI_lem1, m1_le, m1_lt, nI_ltm1, nI_bit, nI_shl, nI_xor, nI_or, n_rem, forall_eq, true_and, and_true, implies_true, true_implies, false_implies, not_true_eq_false, not_false_eq_true, Nat.zero_add, Nat.add_zero, ite_true, ite_false, if_true, if_false, true_or, or_true, false_or, or_false, and_self, and_false, false_and, Nat.reduceEqDiff, reduceIte]
    have hlt : dK D p ||| 2 ^ k < 2 ^ nT D.1 := Nat.or_lt_two_pow hK (Nat.pow_lt_pow_right (by decide) hkT)
    have hok : drOK (D.1, dH D, dA D, dT D, up (dK D) p (dK D p ||| 2 ^ k)) := by
      refine ⟨hd.1, ⟨hd.2.1.1, hd.2.1.2.1, fun j hj => ?_, hd.2.1.2.2.2⟩, hd.2.2⟩
      obtain ⟨r1, r2, r3⟩ := hd.2.1.2.2.1 j hj
      refine ⟨r1, r2, ?_⟩
      show up (dK D) p (dK D p ||| 2 ^ k) j < _
      unfold up
      split
      · exact hlt
      · exact r3
    have hDm : Dm (sA σ3 43 (3 * p + 2) (nI (dK D p ||| 2 ^ k))) (D.1, dH D, dA D, dT D, up (dK D) p (dK D p ||| 2 ^ k)) n u := by
      obtain ⟨h1, h2, h3, h4, h5, h6, h7', h8⟩ := hD3
      refine ⟨h1, h2, h3, h4, h5, fun j hj => ?_, h7', ⟨h8.1.eqv rfl rfl rfl, h8.2.1.eqv rfl rfl rfl, h8.2.2.eqv rfl rfl rfl⟩⟩
      obtain ⟨r1, r2, r3⟩ := h6 j hj
      refine ⟨?_, ?_, ?_⟩
      · rw [fA_sA, if_neg (by omega)]; exact r1
      · rw [fA_sA, if_neg (by omega)]; exact r2
      · show _ = nI (up (dK D) p (dK D p ||| 2 ^ k) j)
        rw [fA_sA]
        unfold up
        by_cases zj : j = p
        · rw [zj, if_pos ⟨rfl, rfl⟩, if_pos rfl]
        · rw [if_neg (by omega), if_neg zj]; exact r3
    exact ml_fin (hT3.a (by decide)) hDm hn (by omega) (hP.trans ((FT.p hF03).trans (Pf.a (by omega)))) (fun b' hf σ' hP' hT' hD' hu' => ho _ b' (by rw [hpk]; exact hf) σ' u hP' hT' hD' hu' hok) (fun q hf => hx q (by rw [hpk]; exact hf))
  · rw [if_pos z] at hpk
    rw [h383]
    exact ml_fail (q := (3, f3)) hT3.2.2.2.1 (by simp) (fun σ5 hF5 hB5 => bad _ hpk σ5 (hF03.trans (hF5.wide (by decide) (by decide) (by decide))) hB5 _ _)
theorem ml_list {σ0 σ : FS} {t : Nat → Nat} {e a n u pl : Nat} {D : Dr} {Q : FS → Prop} (h : Tok σ t e a) (hD : Dm σ D n u) (hd : drOK D) (hn : n < 80) (hu : u ≤ a) (hP : Pf σ0 σ)
    (ho : ∀ D' b, pList D pl t e a = .inl (D', b) → ∀ σ' u', Pf σ0 σ' → Tok σ' t e b → Dm σ' D' (n + 1) u' → u' ≤ b → drOK D' → Q σ') (hx : ∀ q, pList D pl t e a = .inr q → ∀ σ', Pf σ0 σ' → Bd σ' q → Q σ') : mw_listTold (nI pl) σ (fun σ28 => mw_statementTold_195 σ28 Q) := by
  have h12 := hd.1.2.2.2.2.2.1
  have bad : ∀ q, pList D pl t e a = .inr q → ∀ σ1, FT σ σ1 → Bd σ1 q → mw_statementTold_195 σ1 Q := fun q hp σ1 hF1 hB1 => ml_finB hB1 (hP.trans (FT.p hF1)) (fun σ' hP' hB' => hx q hp σ' hP' hB')
  unfold mw_listTold
  refine ml_isFull (i := 2) (m := 12) h (by decide) hD.2.2.1.2.2 (by omega) (by decide) (fun hne => ⟨fun _ => ?_, fun z => absurd rfl z⟩) (fun heq σ1 hF1 hB1 => ⟨fun z => absurd z (by decide), fun _ => bad _ (by unfold pList; rw [if_pos heq]) σ1 hF1 hB1⟩)
  have hpt : pList D pl t e a = pB (pOf (plN D.1) t e a) (fun p b => pB (pExp (str 19) t e b) (fun _ b2 => pB (pOf (plT D.1) t e b2) (fun k b3 => pFin (addL D.1 (p.1, k.1), D.2) t e b3))) := by unfold pList; rw [if_neg hne]
  refine ml_named (i := 1) h (hD.nn hd) (fun p f1 b1 hp1 hpl σ1 hF1 hT1 h381 => ?_) (fun q hp1 σ1 r hF1 hB1 => ml_needsB hB1 (ml_namedB (i := 0) hB1 ((hD.t hF1).nt hd) (fun r2 => ⟨fun z => absurd z hB1.ne, fun _ => bad q (by rw [hpt, hp1]; rfl) σ1 hF1 hB1⟩)))
  refine ml_needs (k := 19) hT1 (by unfold mok; decide) (by decide) (by decide) (fun b2 σ2 hp2 hF2 hT2 => ?_) (fun q σ2 hp2 hF2 hB2 => ml_namedB (i := 0) hB2 ((hD.t (hF1.trans hF2)).nt hd) (fun r2 => ⟨fun z => absurd z hB2.ne, fun _ => bad q (by rw [hpt, hp1, pB_inl]; simp only; rw [hp2]; rfl) σ2 (hF1.trans hF2) hB2⟩))
  have hF02 := hF1.trans hF2
  refine ml_named (i := 0) hT2 ((hD.t hF02).nt hd) (fun k f3 b3 hp3 hkl σ3 hF3 hT3 h383 => ?_) (fun q hp3 σ3 r hF3 hB3 => ⟨fun z => absurd z hB3.ne, fun _ => bad q (by rw [hpt, hp1, pB_inl]; simp only; rw [hp2, pB_inl]; simp only; rw [hp3]; rfl) σ3 (hF02.trans hF3) hB3⟩)
  have hF03 := hF02.trans hF3
  have hD3 := hD.t hF03
  rw [hp1, pB_inl] at hpt
  simp only at hpt
  rw [hp2, pB_inl] at hpt
  simp only at hpt
  rw [hp3, pB_inl] at hpt
  simp only at hpt
  have q1 := pOf_ok h.2.2.1 hp1
  have q2 := pExp_ok hT1.2.2.1 hp2
  have q3 := pOf_ok hT2.2.2.1 hp3
  have hpN : p < nP D.1 := hpl
  have hkT : k < nT D.1 := hkl
  have hl11 : (plL D.1).length ≤ 11 := by omega
  refine ⟨fun _ => ?_, fun z => absurd hT3.2.2.2.1 z⟩
  have h40 : fA σ3 40 2 = nI (plL D.1).length := hD3.2.2.1.2.2
  simp (disch := omega) only [i_0, i_1, i_2, i_3, i_4, i_5, i_6, i_7, i_8, i_9, i_10, i_11, i_12, i_13, i_16, i_19, i_20, i_21, i_22, i_23, i_24, i_25, i_30, i_31, i_32, i_39, i_40, i_41, i_42, i_43, i_44, i_45, i_47, i_48, i_49, i_50, i_51, i_52, i_57, i_59, i_60, i_61, i_62, i_63, i_64, i_71, i_72, i_80, i_91, i_93, i_97, i_99, i_100, i_122, i_227, i_228, i_232, i_251, i_255, i_256, i_463, i_999, i_1000, i_1519, i_1600, i_9999, i_100000000, i_2147483639, i_2147483647, neg_nI1, nI_add, pk_mul, nI_remL, pk_sub, pk_div, nI_clamp, nI_leI, nI_ltI, nI_eq, vpT, nI_m1, m1_nI, nI_lem1, m1_le, m1_lt, nI_ltm1, nI_bit, nI_shl, nI_xor, nI_or, n_rem, forall_eq, true_and, and_true, implies_true, true_implies, false_implies, not_true_eq_false, not_false_eq_true, Nat.zero_add, Nat.add_zero, ite_true, ite_false, if_true, if_false, true_or, or_true, false_or, or_false, and_self, and_false, false_and, Nat.reduceEqDiff, reduceIte]
  rw [h40]
  simp (disch := omega) only [i_0, i_1, i_2, i_3, i_4, i_5, i_6, i_7, i_8, i_9, i_10, i_11, i_12, i_13, i_16, i_19, i_20, i_21, i_22, i_23, i_24, i_25, i_30, i_31, i_32, i_39, i_40, i_41, i_42, i_43, i_44, i_45, i_47, i_48, i_49, i_50, i_51, i_52, i_57, i_59, i_60, i_61, i_62, i_63, i_64, i_71, i_72, i_80, i_91, i_93, i_97, i_99, i_100, i_122, i_227, i_228, i_232, i_251, i_255, i_256, i_463, i_999, i_1000, i_1519, i_1600, i_9999, i_100000000, i_2147483639, i_2147483647, neg_nI1, nI_add, pk_mul, nI_remL, pk_sub, pk_div, nI_clamp, nI_leI, nI_ltI, nI_eq, vpT, nI_m1, m1_nI, nI_lem1, m1_le, m1_lt, nI_ltm1, nI_bit, nI_shl, nI_xor, nI_or, n_rem, forall_eq, true_and, and_true, implies_true, true_implies, false_implies, not_true_eq_false, not_false_eq_true, Nat.zero_add, Nat.add_zero, ite_true, ite_false, if_true, if_false, true_or, or_true, false_or, or_false, and_self, and_false, false_and, Nat.reduceEqDiff, reduceIte]
  rw [show fA (sA σ3 44 (2 * (plL D.1).length) (nI p)) 40 2 = nI (plL D.1).length by rw [fA_sA, if_neg (by omega)]; exact h40]
  simp (disch := omega) only [i_0, i_1, i_2, i_3, i_4, i_5, i_6, i_7, i_8, i_9, i_10, i_11, i_12, i_13, i_16, i_19, i_20, i_21, i_22, i_23, i_24, i_25, i_30, i_31, i_32, i_39, i_40, i_41, i_42, i_43, i_44, i_45, i_47, i_48, i_49, i_50, i_51, i_52, i_57, i_59, i_60, i_61, i_62, i_63, i_64, i_71, i_72, i_80, i_91, i_93, i_97, i_99, i_100, i_122, i_227, i_228, i_232, i_251, i_255, i_256, i_463, i_999, i_1000, i_1519, i_1600, i_9999, i_100000000, i_2147483639, i_2147483647, neg_nI1, nI_add, pk_mul, nI_remL, pk_sub, pk_div, nI_clamp, nI_leI, nI_ltI, nI_eq, vpT, nI_m1, m1_nI, nI_lem1, m1_le, m1_lt, nI_ltm1, nI_bit, nI_shl, nI_xor, nI_or, n_rem, forall_eq, true_and, and_true, implies_true, true_implies, false_implies, not_true_eq_false, not_false_eq_true, Nat.zero_add, Nat.add_zero, ite_true, ite_false, if_true, if_false, true_or, or_true, false_or, or_false, and_self, and_false, false_and, Nat.reduceEqDiff, reduceIte]
  rw [show fA (sA (sA σ3 44 (2 * (plL D.1).length) (nI p)) 44 (2 * (plL D.1).length + 1) (nI k)) 40 2 = nI (plL D.1).length by rw [fA_sA, if_neg (by omega), fA_sA, if_neg (by omega)]; exact h40]
  rw [nI_add]
  have hll : (plL (addL D.1 (p, k))).length = (plL D.1).length + 1 := by unfold addL plL; simp
  have hok : drOK (addL D.1 (p, k), D.2) := by
    obtain ⟨⟨g1, g2, g3, g4, g5, g6, g7, g8, g9, g10⟩, s, w1⟩ := hd
    refine ⟨⟨g1, g2, g3, g4, g5, by rw [hll]; omega, fun q hq => ?_, g8, g9, g10⟩, s, w1⟩
    have hq2 : q ∈ plL D.1 ++ [(p, k)] := hq
    rcases List.mem_append.mp hq2 with z | z
    · exact g7 q z
    · simp at z; rw [z]; exact ⟨hpN, hkT⟩
  refine ml_fin (D := (addL D.1 (p, k), D.2)) (u := u) (((hT3.a (by decide)).a (by decide)).a (by decide)) ?_ hn (by omega) (hP.trans ((FT.p hF03).trans ((Pf.a (by omega)).trans ((Pf.a (by omega)).trans (Pf.a (by omega)))))) (fun b' hf σ' hP' hT' hD' hu' => ho _ b' (by rw [hpt]; exact hf) σ' u hP' hT' hD' hu' hok) (fun q hf => hx q (by rw [hpt]; exact hf))
  obtain ⟨h1, h2, h3, h4, h5, h6, h7', h8⟩ := hD3
  refine ⟨h1, h2, ⟨h3.1, h3.2.1, ?_⟩, h4, h5, h6, fun j q hj => ?_, ⟨h8.1.eqv rfl rfl rfl, h8.2.1.eqv rfl rfl rfl, h8.2.2.eqv rfl rfl rfl⟩⟩
  · rw [fA_sA, if_pos ⟨rfl, rfl⟩, hll]
  · have hj2 : (plL D.1 ++ [(p, k)])[j]? = some q := hj
    show fA (sA (sA σ3 44 (2 * (plL D.1).length) (nI p)) 44 (2 * (plL D.1).length + 1) (nI k)) 44 (2 * j) = _ ∧ fA (sA (sA σ3 44 (2 * (plL D.1).length) (nI p)) 44 (2 * (plL D.1).length + 1) (nI k)) 44 (2 * j + 1) = _
    rcases Nat.lt_or_ge j (plL D.1).length with z | z
    · rw [List.getElem?_append_left z] at hj2
      obtain ⟨r1, r2⟩ := h7' j q hj2
      refine ⟨?_, ?_⟩
      · rw [fA_sA, if_neg (by omega), fA_sA, if_neg (by omega)]; exact r1
      · rw [fA_sA, if_neg (by omega), fA_sA, if_neg (by omega)]; exact r2
    · rw [List.getElem?_append_right z] at hj2
      have hz : j = (plL D.1).length := by
        have := (List.getElem?_eq_some_iff.mp hj2).1
        simp at this; omega
      subst hz
      simp at hj2
      subst hj2
      refine ⟨?_, ?_⟩
      · rw [fA_sA, if_neg (by omega), fA_sA, if_pos ⟨rfl, rfl⟩]
      · rw [fA_sA, if_pos ⟨rfl, rfl⟩]
/-- the crowd -/
theorem ml_crowd {σ0 σ : FS} {t : Nat → Nat} {e a n u : Nat} {D : Dr} {Q : FS → Prop} (h : Tok σ t e a) (hD : Dm σ D n u) (hd : drOK D) (hn : n < 80) (hu : u ≤ a) (hP : Pf σ0 σ)
    (ho : ∀ D' b, pCrowd D t e a = .inl (D', b) → ∀ σ' u', Pf σ0 σ' → Tok σ' t e b → Dm σ' D' (n + 1) u' → u' ≤ b → drOK D' → Q σ') (hx : ∀ q, pCrowd D t e a = .inr q → ∀ σ', Pf σ0 σ' → Bd σ' q → Q σ') : mw_needs 24 σ (fun σ17 => mw_number (0 : Int32) (100 : Int32) σ17 (fun r19 σ18 => (vp_in (2 : Int32) 6 ∧ ∀ σ20, σ20 = sA σ18 39 (Int32.toNatClampNeg (2 : Int32)) r19 → mw_statementTold_195 σ20 Q))) := by
  have bad : ∀ q, pCrowd D t e a = .inr q → ∀ σ1, FT σ σ1 → Bd σ1 q → ∀ r, vp_in (2 : Int32) 6 ∧ ∀ σ20, σ20 = sA σ1 39 (Int32.toNatClampNeg (2 : Int32)) r → mw_statementTold_195 σ20 Q := by
    intro q hp σ1 hF1 hB1 r
    simp (disch := omega) only [i_0, i_1, i_2, i_3, i_4, i_5, i_6, i_7, i_8, i_9, i_10, i_11, i_12, i_13, i_16, i_19, i_20, i_21, i_22, i_23, i_24, i_25, i_30, i_31, i_32, i_39, i_40, i_41, i_42, i_43, i_44, i_45, i_47, i_48, i_49, i_50, i_51, i_52, i_57, i_59, i_60, i_61, i_62, i_63, i_64, i_71, i_72, i_80, i_91, i_93, i_97, i_99, i_100, i_122, i_227, i_228, i_232, i_251, i_255, i_256, i_463, i_999, i_1000, i_1519, i_1600, i_9999, i_100000000, i_2147483639, i_2147483647, neg_nI1, nI_add, pk_mul, nI_remL, pk_sub, pk_div, nI_clamp, nI_leI, nI_ltI, nI_eq, vpT, nI_m1, m1_nI, nI_lem1, m1_le, m1_lt, nI_ltm1, nI_bit, nI_shl, nI_xor, nI_or, n_rem, forall_eq, true_and, and_true, implies_true, true_implies, false_implies, not_true_eq_false, not_false_eq_true, Nat.zero_add, Nat.add_zero, ite_true, ite_false, if_true, if_false, true_or, or_true, false_or, or_false, and_self, and_false, false_and, Nat.reduceEqDiff, reduceIte]
    have hF : Fm [] [39] [] σ1 (sA σ1 39 2 r) := Fm.sA σ1 _ _ (by decide)
    exact ml_finB (hB1.fm hF (by simp) (by simp)) (hP.trans ((FT.p hF1).trans (Pf.a (by omega)))) (fun σ' hP' hB' => hx q hp σ' hP' hB')
  refine ml_needs (k := 24) h (by unfold mok; decide) (by decide) (by decide) (fun b2 σ2 hp2 hF2 hT2 => ?_) (fun q σ2 hp2 hF2 hB2 => ml_numberB hB2 (bad q (by unfold pCrowd; rw [hp2]; rfl) σ2 hF2 hB2 _))
  refine ml_number (lo := 0) (hi := 100) hT2 (by decide) (by decide) (fun v b3 f3 σ3 hp3 hF3 hT3 h103 hv1 hv2 => ?_) (fun q r σ3 hp3 hF3 hB3 => bad q (by unfold pCrowd; rw [hp2, pB_inl]; simp only; rw [hp3]; rfl) σ3 (hF2.trans hF3) hB3 _)
  have hpt : pCrowd D t e a = pFin (setW D.1 v, D.2) t e b3 := by unfold pCrowd; rw [hp2, pB_inl]; simp only; rw [hp3]; rfl
  have q1 := pExp_ok h.2.2.1 hp2
  have q2 := pNum_ok hT2.2.2.1 hp3
  have hF03 := hF2.trans hF3
  have hD3 := hD.t hF03
  simp (disch := omega) only [i_0, i_1, i_2, i_3, i_4, i_5, i_6, i_7, i_8, i_9, i_10, i_11, i_12, i_13, i_16, i_19, i_20, i_21, i_22, i_23, i_24, i_25, i_30, i_31, i_32, i_39, i_40, i_41, i_42, i_43, i_44, i_45, i_47, i_48, i_49, i_50, i_51, i_52, i_57, i_59, i_60, i_61, i_62, i_63, i_64, i_71, i_72, i_80, i_91, i_93, i_97, i_99, i_100, i_122, i_227, i_228, i_232, i_251, i_255, i_256, i_463, i_999, i_1000, i_1519, i_1600, i_9999, i_100000000, i_2147483639, i_2147483647, neg_nI1, nI_add, pk_mul, nI_remL, pk_sub, pk_div, nI_clamp, nI_leI, nI_ltI, nI_eq, vpT, nI_m1, m1_nI, nI_lem1, m1_le, m1_lt, nI_ltm1, nI_bit, nI_shl, nI_xor, nI_or, n_rem, forall_eq, true_and, and_true, implies_true, true_implies, false_implies, not_true_eq_false, not_false_eq_true, Nat.zero_add, Nat.add_zero, ite_true, ite_false, if_true, if_false, true_or, or_true, false_or, or_false, and_self, and_false, false_and, Nat.reduceEqDiff, reduceIte]
  have hok : drOK (setW D.1 v, D.2) := by
    obtain ⟨⟨g1, g2, g3, g4, g5, g6, g7, g8, g9, g10⟩, s, w1⟩ := hd
    exact ⟨⟨g1, g2, hv1, g4, g5, g6, g7, g8, g9, g10⟩, s, w1⟩
  refine ml_fin (D := (setW D.1 v, D.2)) (u := u) (hT3.a (by decide)) ?_ hn (by omega) (hP.trans ((FT.p hF03).trans (Pf.a (by omega)))) (fun b' hf σ' hP' hT' hD' hu' => ho _ b' (by rw [hpt]; exact hf) σ' u hP' hT' hD' hu' hok) (fun q hf => hx q (by rw [hpt]; exact hf))
  obtain ⟨h1, h2, h3, h4, h5, h6, h7', h8⟩ := hD3
  refine ⟨h1, ⟨?_, ?_, ?_⟩, h3, h4, h5, h6, h7', ⟨h8.1.eqv rfl rfl rfl, h8.2.1.eqv rfl rfl rfl, h8.2.2.eqv rfl rfl rfl⟩⟩
  · rw [fA_sA, if_neg (by decide)]; exact h2.1
  · rw [fA_sA, if_neg (by decide)]; exact h2.2.1
  · rw [fA_sA, if_pos ⟨rfl, rfl⟩]; rfl
