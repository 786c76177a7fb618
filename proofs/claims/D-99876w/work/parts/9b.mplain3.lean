/-! THE REFERENCE: plain, whole -/
theorem D0_ok {c r : Nat} (hc : 3 ≤ c ∧ c ≤ 7) (hr : 3 ≤ r ∧ r ≤ 7) : drOK (D0 c r) := by
  refine ⟨⟨hc, hr, Nat.zero_le _, Nat.zero_le _, Nat.zero_le _, Nat.zero_le _, fun q hq => (by cases hq), fun cs h => (by cases h), fun cs h => (by cases h), fun cs h => (by cases h)⟩, ⟨Nat.zero_le _, fun c _ => (show 50 ≤ 99 by decide), fun p hp => absurd hp (Nat.not_lt_zero p), Nat.zero_le _⟩, fun w hw => ?_⟩
  rcases hw with z | z <;> cases z
/-- the head: only rows 0 and 1 of 39 are written -/
theorem ml_head {σ : FS} {t : Nat → Nat} {e : Nat} {Q : FS → Prop} (h : Tok σ t e 0)
    (ho : ∀ c r b, pHead t e = .inl ((c, r), b) → (3 ≤ c ∧ c ≤ 7) → (3 ≤ r ∧ r ≤ 7) → ∀ σ', Pf σ σ' → Fm [2, 4, 5, 6, 10, 38] [39] [] σ σ' → Tok σ' t e b → fA σ' 39 0 = nI c → fA σ' 39 1 = nI r → fA σ' 39 2 = fA σ 39 2 → Q σ') (hx : ∀ q, pHead t e = .inr q → ∀ σ', Pf σ σ' → Bd σ' q → Q σ') : mw_plainTold σ Q := by
  unfold mw_plainTold
  have wr : ∀ (σ1 : FS) q, Bd σ1 q → ∀ k v, k < 3 → Bd (sA σ1 39 k v) q ∧ Pf σ1 (sA σ1 39 k v) := fun σ1 q hB k v hk => ⟨hB.fm (Fm.sA (ks := []) (as := [39]) (bs := []) σ1 _ _ (by decide)) (by simp) (by simp), Pf.a (by omega)⟩
  have t4 : ∀ q, pHead t e = .inr q → ∀ σ1, Pf σ σ1 → Bd σ1 q → ∀ v, mw_asksSign (59 : Int32) (sA σ1 39 1 v) (fun σ9 => Q σ9) := fun q hp σ1 hP hB v => ml_asksB (wr σ1 q hB 1 v (by decide)).1 (hx q hp _ (hP.trans (wr σ1 q hB 1 v (by decide)).2) (wr σ1 q hB 1 v (by decide)).1)
  refine ml_needs (k := 11) h (by unfold mok; decide) (by decide) (by decide) (fun b1 σ1 hp1 hF1 hT1 => ?_) (fun q σ1 hp1 hF1 hB1 => ml_numberB hB1 ?_)
  rotate_left
  · have hp : pHead t e = .inr q := by unfold pHead; rw [hp1]; rfl
    simp (disch := omega) only [i_0, i_1, i_2, i_3, i_4, i_5, i_6, i_7, i_8, i_9, i_10, i_11, i_12, i_13, i_16, i_19, i_20, i_21, i_22, i_23, i_24, i_25, i_30, i_31, i_32, i_39, i_40, i_41, i_42, i_43, i_44, i_45, i_47, i_48, i_49, i_50, i_51, i_52, i_57, i_59, i_60, i_61, i_62, i_63, i_64, i_71, i_72, i_80, i_91, i_93, i_97, i_99, i_100, i_122, i_227, i_228, i_232, i_251, i_255, i_256, i_463, i_999, i_1000, i_1519, i_1600, i_9999, i_100000000, i_2147483639, i_2147483647, neg_nI1, nI_add, pk_mul, nI_remL, pk_sub, pk_div, nI_clamp, nI_leI, nI_ltI, nI_eq, vpT, nI_m1, m1_nI, nI_lem1, m1_le, m1_lt, nI_ltm1, nI_bit, nI_shl, nI_xor, nI_or, n_rem, forall_eq, true_and, and_true, implies_true, true_implies, false_implies, not_true_eq_false, not_false_eq_true, Nat.zero_add, Nat.add_zero, ite_true, ite_false, if_true, if_false, true_or, or_true, false_or, or_false, and_self, and_false, false_and, Nat.reduceEqDiff, reduceIte]
    obtain ⟨wb, wp⟩ := wr σ1 q hB1 0 (nI 0) (by decide)
    refine ml_needsB wb (ml_numberB wb ?_)
    exact t4 q hp _ ((FT.p hF1).trans wp) wb _
  refine ml_number (lo := 3) (hi := 7) hT1 (by decide) (by decide) (fun c b2 f2 σ2 hp2 hF2 hT2 h102 hc1 hc2 => ?_) (fun q r σ2 hp2 hF2 hB2 => ?_)
  rotate_left
  · have hp : pHead t e = .inr q := by unfold pHead; rw [hp1, pB_inl]; simp only; rw [hp2]; rfl
    simp (disch := omega) only [i_0, i_1, i_2, i_3, i_4, i_5, i_6, i_7, i_8, i_9, i_10, i_11, i_12, i_13, i_16, i_19, i_20, i_21, i_22, i_23, i_24, i_25, i_30, i_31, i_32, i_39, i_40, i_41, i_42, i_43, i_44, i_45, i_47, i_48, i_49, i_50, i_51, i_52, i_57, i_59, i_60, i_61, i_62, i_63, i_64, i_71, i_72, i_80, i_91, i_93, i_97, i_99, i_100, i_122, i_227, i_228, i_232, i_251, i_255, i_256, i_463, i_999, i_1000, i_1519, i_1600, i_9999, i_100000000, i_2147483639, i_2147483647, neg_nI1, nI_add, pk_mul, nI_remL, pk_sub, pk_div, nI_clamp, nI_leI, nI_ltI, nI_eq, vpT, nI_m1, m1_nI, nI_lem1, m1_le, m1_lt, nI_ltm1, nI_bit, nI_shl, nI_xor, nI_or, n_rem, forall_eq, true_and, and_true, implies_true, true_implies, false_implies, not_true_eq_false, not_false_eq_true, Nat.zero_add, Nat.add_zero, ite_true, ite_false, if_true, if_false, true_or, or_true, false_or, or_false, and_self, and_false, false_and, Nat.reduceEqDiff, reduceIte]
    obtain ⟨wb, wp⟩ := wr σ2 q hB2 0 r (by decide)
    refine ml_needsB wb (ml_numberB wb ?_)
    exact t4 q hp _ ((FT.p (hF1.trans hF2)).trans wp) wb _
  simp (disch := omega) only [i_0, i_1, i_2, i_3, i_4, i_5, i_6, i_7, i_8, i_9, i_10, i_11, i_12, i_13, i_16, i_19, i_20, i_21, i_22, i_23, i_24, i_25, i_30, i_31, i_32, i_39, i_40, i_41, i_42, i_43, i_44, i_45, i_47, i_48, i_49, i_50, i_51, i_52, i_57, i_59, i_60, i_61, i_62, i_63, i_64, i_71, i_72, i_80, i_91, i_93, i_97, i_99, i_100, i_122, i_227, i_228, i_232, i_251, i_255, i_256, i_463, i_999, i_1000, i_1519, i_1600, i_9999, i_100000000, i_2147483639, i_2147483647, neg_nI1, nI_add, pk_mul, nI_remL, pk_sub, pk_div, nI_clamp, nI_leI, nI_ltI, nI_eq, vpT, nI_m1, m1_nI, nI_lem1, m1_le, m1_lt, nI_ltm1, nI_bit, nI_shl, nI_xor, nI_or, n_rem, forall_eq, true_and, and_true, implies_true, true_implies, false_implies, not_true_eq_false, not_false_eq_true, Nat.zero_add, Nat.add_zero, ite_true, ite_false, if_true, if_false, true_or, or_true, false_or, or_false, and_self, and_false, false_and, Nat.reduceEqDiff, reduceIte]
  have hT2' : Tok (sA σ2 39 0 (nI c)) t e b2 := hT2.a (by decide)
  have hP2 : Pf σ (sA σ2 39 0 (nI c)) := (FT.p (hF1.trans hF2)).trans (Pf.a (by omega))
  have hM2 : Fm [2, 4, 5, 6, 10, 38] [39] [] σ (sA σ2 39 0 (nI c)) := ((hF1.trans hF2).wide (by decide) (by simp) (by simp)).trans (Fm.sA _ _ _ (by decide))
  have h390 : fA (sA σ2 39 0 (nI c)) 39 0 = nI c := by rw [fA_sA, if_pos ⟨rfl, rfl⟩]
  have h392 : fA (sA σ2 39 0 (nI c)) 39 2 = fA σ 39 2 := by rw [fA_sA, if_neg (by decide), (hF1.trans hF2).2.1 39 (by simp)]
  revert hT2' hP2 hM2 h390 h392
  generalize sA σ2 39 0 (nI c) = σ3
  intro hT3 hP3 hM3 h390 h392
  refine ml_needs (k := 12) hT3 (by unfold mok; decide) (by decide) (by decide) (fun b4 σ4 hp4 hF4 hT4 => ?_) (fun q σ4 hp4 hF4 hB4 => ml_numberB hB4 ?_)
  rotate_left
  · exact t4 q (by unfold pHead; rw [hp1, pB_inl]; simp only; rw [hp2, pB_inl]; simp only; rw [hp4]; rfl) _ (hP3.trans (FT.p hF4)) hB4 _
  refine ml_number (lo := 3) (hi := 7) hT4 (by decide) (by decide) (fun r b5 f5 σ5 hp5 hF5 hT5 h105 hr1 hr2 => ?_) (fun q r σ5 hp5 hF5 hB5 => ?_)
  rotate_left
  · exact t4 q (by unfold pHead; rw [hp1, pB_inl]; simp only; rw [hp2, pB_inl]; simp only; rw [hp4, pB_inl]; simp only; rw [hp5]; rfl) _ (hP3.trans (FT.p (hF4.trans hF5))) hB5 _
  have hF45 := hF4.trans hF5
  have hT6 : Tok (sA σ5 39 1 (nI r)) t e b5 := hT5.a (by decide)
  have hP6 : Pf σ (sA σ5 39 1 (nI r)) := hP3.trans ((FT.p hF45).trans (Pf.a (by omega)))
  have hM6 : Fm [2, 4, 5, 6, 10, 38] [39] [] σ (sA σ5 39 1 (nI r)) := hM3.trans ((hF45.wide (by decide) (by simp) (by simp)).trans (Fm.sA _ _ _ (by decide)))
  have k0 : fA (sA σ5 39 1 (nI r)) 39 0 = nI c := by rw [fA_sA, if_neg (by decide), hF45.2.1 39 (by simp)]; exact h390
  have k1 : fA (sA σ5 39 1 (nI r)) 39 1 = nI r := by rw [fA_sA, if_pos ⟨rfl, rfl⟩]
  have k2 : fA (sA σ5 39 1 (nI r)) 39 2 = fA σ 39 2 := by rw [fA_sA, if_neg (by decide), hF45.2.1 39 (by simp)]; exact h392
  refine ml_asksSign (c := 59) hT6 (by decide) (by decide) (by decide) (fun b7 σ7 hp7 hF7 hT7 => ?_) (fun q σ7 hp7 hF7 hB7 => ?_)
  · refine ho c r b7 ?_ (by omega) (by omega) σ7 (hP6.trans (FT.p hF7)) (hM6.trans (hF7.wide (by decide) (by simp) (by simp))) hT7 ?_ ?_ ?_
    · unfold pHead; rw [hp1, pB_inl]; simp only; rw [hp2, pB_inl]; simp only; rw [hp4, pB_inl]; simp only; rw [hp5, pB_inl]; simp only; rw [hp7]; rfl
    · rw [hF7.2.1 39 (by simp)]; exact k0
    · rw [hF7.2.1 39 (by simp)]; exact k1
    · rw [hF7.2.1 39 (by simp)]; exact k2
  · refine hx q ?_ σ7 (hP6.trans (FT.p hF7)) hB7
    unfold pHead; rw [hp1, pB_inl]; simp only; rw [hp2, pB_inl]; simp only; rw [hp4, pB_inl]; simp only; rw [hp5, pB_inl]; simp only; rw [hp7]; rfl
