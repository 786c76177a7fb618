/-! THE REFERENCE: codes, a day -/
theorem mul_in {a b : Int} (ha : -1000000 ≤ a ∧ a ≤ 1000000) (hb : -1000000 ≤ b ∧ b ≤ 1000000) : -1000000000000 ≤ a * b ∧ a * b ≤ 1000000000000 := by
  have h := Int.natAbs_mul a b
  have h2 : a.natAbs * b.natAbs ≤ 1000000 * 1000000 := Nat.mul_le_mul (by omega) (by omega)
  omega
theorem ml_joins {σ : FS} {l : List Int} {a b : Int} {c : Nat} {Q : FS → Prop} (h : mPi σ (b :: a :: l)) (hl : l.length + 2 ≤ 1700) (hc : 1 ≤ c ∧ c ≤ 11) (ha : -1000000 ≤ a ∧ a ≤ 1000000) (hb : -1000000 ≤ b ∧ b ≤ 1000000) (hQ : ∀ σ', Fm [109] [] [108] σ σ' → mPi σ' (opv c a b :: l) → Q σ') : mw_qJoins (nI c) σ Q := by
  obtain ⟨h0, hB, hA, hl0⟩ := h
  simp only [List.length_cons] at h0 hB
  have e1 : fI σ 0 109 - 1 = nI (l.length + 1) := by rw [h0, i_1, pk_sub (by omega)]; rfl
  have e2 : fI σ 0 109 - 2 = nI l.length := by rw [h0, i_2, pk_sub (by omega)]; rfl
  have hm := mul_in ha hb
  have fin : ∀ v, v = opv c a b → mw_qPuts (lI v) (sI σ 0 109 (nI l.length)) (fun σ' => Q σ') := by
    intro v hv; subst hv
    exact ml_puts (l := l) ⟨by rw [fI_sI]; simp, pil_eq hl0 (fun _ _ => rfl)⟩ (by omega) (fun σ' f hp => hQ σ' ((Fm.sI σ _ (by decide)).trans f) hp)
  unfold mw_qJoins
  rw [e1, e2]
  unfold mw_qJoins_161 mw_qJoins_181 mw_qJoins_200 mw_qJoins_219 mw_qJoins_238 mw_qJoins_270
  simp (disch := omega) only [i_0, i_1, i_2, i_3, i_4, i_5, i_6, i_7, i_8, i_9, i_10, i_11, i_12, i_13, i_16, i_19, i_20, i_21, i_22, i_23, i_24, i_25, i_30, i_31, i_32, i_39, i_40, i_41, i_42, i_43, i_44, i_45, i_47, i_48, i_49, i_50, i_51, i_52, i_57, i_59, i_60, i_61, i_62, i_63, i_64, i_71, i_72, i_80, i_91, i_93, i_97, i_99, i_100, i_122, i_227, i_228, i_232, i_251, i_255, i_256, i_463, i_999, i_1000, i_1519, i_1600, i_9999, i_100000000, i_2147483639, i_2147483647, neg_nI1, nI_add, pk_mul, nI_remL, pk_sub, pk_div, nI_clamp, nI_leI, nI_ltI, nI_eq, vpT, nI_m1, m1_nI, nI_lem1, m1_le, m1_lt, nI_ltm1, nI_bit, nI_shl, nI_xor, nI_or, n_rem, l_0, l_1, l_9, l_27, l_64, l_12345, l_1000000, l_1103515245, l_2147483648, l_1000000000000000, lI_neg, lI_add, lI_sub, lI_mul, lgc_le, lgc_ge, lgc_eq, lgc_lt, lgc_gt, nI_toL, lI_toI, forall_eq, true_and, and_true, implies_true, true_implies, false_implies, not_true_eq_false, not_false_eq_true, Nat.zero_add, Nat.add_zero, ite_true, ite_false, if_true, if_false, true_or, or_true, false_or, or_false, and_self, and_false, false_and, Nat.reduceEqDiff, reduceIte, hA, hB, lI_le, lI_lt, lI_eq]
  have hcc : c = 1 ∨ c = 2 ∨ c = 3 ∨ c = 4 ∨ c = 5 ∨ c = 6 ∨ c = 7 ∨ c = 8 ∨ c = 9 ∨ c = 10 ∨ c = 11 := by omega
  rcases hcc with rfl | rfl | rfl | rfl | rfl | rfl | rfl | rfl | rfl | rfl | rfl <;> simp only [forall_eq, Nat.reduceEqDiff, false_implies, true_implies, implies_true, not_true_eq_false, not_false_eq_true, true_and, and_true]
  · exact ml_clip (by omega) (by omega) (fin _ (opv_1 a b).symm)
  · exact ml_clip (by omega) (by omega) (fin _ (opv_2 a b).symm)
  · exact ml_clip (by omega) (by omega) (fin _ (opv_3 a b).symm)
  · exact ml_floor ha hb (fin _ (opv_4 a b).symm)
  · exact ⟨fun c => fin _ (by unfold opv; simp; omega), fun c => fin _ (by unfold opv; simp; omega)⟩
  · exact ⟨fun c => fin _ (by unfold opv; simp; omega), fun c => fin _ (by unfold opv; simp; omega)⟩
  · exact ⟨fun c => fin _ (by unfold opv; simp; omega), fun c => fin _ (by unfold opv; simp; omega)⟩
  · exact ⟨fun c => fin _ (by unfold opv; simp; omega), fun c => fin _ (by unfold opv; simp; omega)⟩
  · exact ⟨fun c => fin _ (by unfold opv; simp; omega), fun c => fin _ (by unfold opv; simp; omega)⟩
  · exact fin _ (opv_10 a b).symm
  · exact ⟨fun c => fin _ (by unfold opv; simp; omega), fun c => fin _ (by unfold opv; simp; omega)⟩
/-- who is asked, of what, what stands beside -/
def mAk (σ : FS) (p t sd : Nat) : Prop := fI σ 0 54 = nI p ∧ fI σ 0 55 = nI t ∧ fI σ 0 56 = nI sd
theorem ml_partOf {σ : FS} {P : Pl} {s : St} {p t sd k : Nat} {x : Int32} {Q : Int64 → FS → Prop} (hP : mP σ P) (hN : mN σ P s) (hA : mAk σ p t sd) (hp : p < nP P) (ht : t < 2 ^ 20) (hsd : sd < 2 ^ 20) (hk : k < 9) (hQ : Q (lI (zPt s p t sd k)) σ) : mw_qPartOf (nI k) x σ Q := by
  have h7 := hP.1.2.2.2.2.1
  have h5 := hP.1.2.2.2.1
  obtain ⟨hcell, hti, hkn⟩ := hN.1.2.2.1 p hp
  have hh := hN.1.2.1 _ hcell
  have hd := hN.1.1
  have hlt := isC_lt hP.1 hcell
  have h72 := c7_lt hP.1 hcell
  have hk32 : zK s p < 128 := Nat.lt_of_lt_of_le hkn (Nat.le_trans (Nat.pow_le_pow_right (by decide) h5) (by decide))
  have hpc := popc_le _ hk32
  unfold mw_qPartOf
  rw [hA.1, hA.2.1, hA.2.2]
  have hcc : k = 0 ∨ k = 1 ∨ k = 2 ∨ k = 3 ∨ k = 4 ∨ k = 5 ∨ k = 6 ∨ k = 7 ∨ k = 8 := by omega
  rcases hcc with rfl | rfl | rfl | rfl | rfl | rfl | rfl | rfl | rfl <;> simp (disch := omega) only [i_0, i_1, i_2, i_3, i_4, i_5, i_6, i_7, i_8, i_9, i_10, i_11, i_12, i_13, i_16, i_19, i_20, i_21, i_22, i_23, i_24, i_25, i_30, i_31, i_32, i_39, i_40, i_41, i_42, i_43, i_44, i_45, i_47, i_48, i_49, i_50, i_51, i_52, i_57, i_59, i_60, i_61, i_62, i_63, i_64, i_71, i_72, i_80, i_91, i_93, i_97, i_99, i_100, i_122, i_227, i_228, i_232, i_251, i_255, i_256, i_463, i_999, i_1000, i_1519, i_1600, i_9999, i_100000000, i_2147483639, i_2147483647, neg_nI1, nI_add, pk_mul, nI_remL, pk_sub, pk_div, nI_clamp, nI_leI, nI_ltI, nI_eq, vpT, nI_m1, m1_nI, nI_lem1, m1_le, m1_lt, nI_ltm1, nI_bit, nI_shl, nI_xor, nI_or, n_rem, l_0, l_1, l_9, l_27, l_64, l_12345, l_1000000, l_1103515245, l_2147483648, l_1000000000000000, lI_neg, lI_add, lI_sub, lI_mul, lgc_le, lgc_ge, lgc_eq, lgc_lt, lgc_gt, nI_toL, lI_toI, forall_eq, true_and, and_true, implies_true, true_implies, false_implies, not_true_eq_false, not_false_eq_true, Nat.zero_add, Nat.add_zero, ite_true, ite_false, if_true, if_false, true_or, or_true, false_or, or_false, and_self, and_false, false_and, Nat.reduceEqDiff, reduceIte, Nat.reduceEqDiff]
  · refine ml_tiredOf hP hN hp ?_
    rw [nI_toL (by omega)]; exact hQ
  · refine ml_cellOf hP hN hp (ml_heightOf hP hN hcell ?_)
    rw [nI_toL (by omega)]; exact hQ
  · refine ml_knowsOf hP hN hp (ml_bits hk32 ?_)
    rw [nI_toL (by omega)]; exact hQ
  · rw [hN.2.1, nI_toL (by omega)]; exact hQ
  · exact hQ
  · exact hQ
  · exact hQ
  · refine ml_cellOf hP hN hp ?_
    simp (disch := omega) only [i_0, i_1, i_2, i_3, i_4, i_5, i_6, i_7, i_8, i_9, i_10, i_11, i_12, i_13, i_16, i_19, i_20, i_21, i_22, i_23, i_24, i_25, i_30, i_31, i_32, i_39, i_40, i_41, i_42, i_43, i_44, i_45, i_47, i_48, i_49, i_50, i_51, i_52, i_57, i_59, i_60, i_61, i_62, i_63, i_64, i_71, i_72, i_80, i_91, i_93, i_97, i_99, i_100, i_122, i_227, i_228, i_232, i_251, i_255, i_256, i_463, i_999, i_1000, i_1519, i_1600, i_9999, i_100000000, i_2147483639, i_2147483647, neg_nI1, nI_add, pk_mul, nI_remL, pk_sub, pk_div, nI_clamp, nI_leI, nI_ltI, nI_eq, vpT, nI_m1, m1_nI, nI_lem1, m1_le, m1_lt, nI_ltm1, nI_bit, nI_shl, nI_xor, nI_or, n_rem, l_0, l_1, l_9, l_27, l_64, l_12345, l_1000000, l_1103515245, l_2147483648, l_1000000000000000, lI_neg, lI_add, lI_sub, lI_mul, lgc_le, lgc_ge, lgc_eq, lgc_lt, lgc_gt, nI_toL, lI_toI]
    rw [c7_mod hlt.1]; exact hQ
  · refine ml_cellOf hP hN hp ?_
    simp (disch := omega) only [i_0, i_1, i_2, i_3, i_4, i_5, i_6, i_7, i_8, i_9, i_10, i_11, i_12, i_13, i_16, i_19, i_20, i_21, i_22, i_23, i_24, i_25, i_30, i_31, i_32, i_39, i_40, i_41, i_42, i_43, i_44, i_45, i_47, i_48, i_49, i_50, i_51, i_52, i_57, i_59, i_60, i_61, i_62, i_63, i_64, i_71, i_72, i_80, i_91, i_93, i_97, i_99, i_100, i_122, i_227, i_228, i_232, i_251, i_255, i_256, i_463, i_999, i_1000, i_1519, i_1600, i_9999, i_100000000, i_2147483639, i_2147483647, neg_nI1, nI_add, pk_mul, nI_remL, pk_sub, pk_div, nI_clamp, nI_leI, nI_ltI, nI_eq, vpT, nI_m1, m1_nI, nI_lem1, m1_le, m1_lt, nI_ltm1, nI_bit, nI_shl, nI_xor, nI_or, n_rem, l_0, l_1, l_9, l_27, l_64, l_12345, l_1000000, l_1103515245, l_2147483648, l_1000000000000000, lI_neg, lI_add, lI_sub, lI_mul, lgc_le, lgc_ge, lgc_eq, lgc_lt, lgc_gt, nI_toL, lI_toI]
    rw [c7_div hlt.1]; exact hQ
theorem drop_cons {α : Type} {cs rest : List α} {c : α} {i : Nat} (h : cs.drop i = c :: rest) : cs[i]? = some c ∧ cs.drop (i + 1) = rest ∧ i < cs.length := by
  have h1 : i < cs.length := by
    rcases Nat.lt_or_ge i cs.length with z | z
    · exact z
    · rw [List.drop_eq_nil_of_le z] at h; cases h
  rw [List.drop_eq_getElem_cons h1] at h
  injection h with h2 h3
  exact ⟨by rw [List.getElem?_eq_getElem h1, h2], h3, h1⟩
theorem zPt_in {P : Pl} {s : St} {p t sd : Nat} (hP : plOK P) (hN : stOK P s) (hp : p < nP P) (ht : t < 1000) (hsd : sd < 1000) : ∀ i, i < 9 → -1000000 ≤ zPt s p t sd i ∧ zPt s p t sd i ≤ 1000000 := by
  obtain ⟨hcell, hti, hkn⟩ := hN.2.2.1 p hp
  have hh := hN.2.1 _ hcell
  have hd := hN.1
  have h7 := hP.2.2.2.2.1
  have h5 := hP.2.2.2.1
  have hlt := isC_lt hP hcell
  have hk32 : zK s p < 128 := Nat.lt_of_lt_of_le hkn (Nat.le_trans (Nat.pow_le_pow_right (by decide) h5) (by decide))
  have hpc := popc_le _ hk32
  intro i hi
  unfold zPt
  repeat' split
  all_goals omega
theorem fitV_one {b : Bool} {l : List Int} (h : fitV [b] l) : ∃ v, l = [v] ∧ (if b = true then v = 0 ∨ v = 1 else -1000000 ≤ v ∧ v ≤ 1000000) := by
  obtain ⟨v, l', rfl, hv, h2⟩ := fitV_1 h
  cases l' with
  | nil => exact ⟨v, rfl, hv⟩
  | cons _ _ => exact h2.elim
theorem ml_tell {σ : FS} {P : Pl} {s : St} {p t sd w : Nat} {cs : List Nat} {kd : Bool} {al : Nat → Bool} {Q : Int64 → FS → Prop} (hP : mP σ P) (hN : mN σ P s) (hA : mAk σ p t sd) (hp : p < nP P) (ht : t < 1000) (hsd : sd < 1000) (hw : w < 3) (hcd : mCd σ w (some cs)) (hal : ∀ i, al i = true → i < 9) (hty : tyL al cs [] = some [kd]) (hQ : ∀ σ', Fm [51, 109] [] [108] σ σ' → Q (lI (evV (zPt s p t sd) lk0 cs)) σ') : mw_codesTell (nI w) σ Q := by
  obtain ⟨f, c1, c2, c3, c4⟩ := hcd
  have hpt := zPt_in hP.1 hN.1 hp ht hsd
  have main : ∀ y0, mw_codesTell_10 (nI w) y0 σ Q := by
    intro y0
    unfold mw_codesTell_10
    simp (disch := omega) only [i_0, i_1, i_2, i_3, i_4, i_5, i_6, i_7, i_8, i_9, i_10, i_11, i_12, i_13, i_16, i_19, i_20, i_21, i_22, i_23, i_24, i_25, i_30, i_31, i_32, i_39, i_40, i_41, i_42, i_43, i_44, i_45, i_47, i_48, i_49, i_50, i_51, i_52, i_57, i_59, i_60, i_61, i_62, i_63, i_64, i_71, i_72, i_80, i_91, i_93, i_97, i_99, i_100, i_122, i_227, i_228, i_232, i_251, i_255, i_256, i_463, i_999, i_1000, i_1519, i_1600, i_9999, i_100000000, i_2147483639, i_2147483647, neg_nI1, nI_add, pk_mul, nI_remL, pk_sub, pk_div, nI_clamp, nI_leI, nI_ltI, nI_eq, vpT, nI_m1, m1_nI, nI_lem1, m1_le, m1_lt, nI_ltm1, nI_bit, nI_shl, nI_xor, nI_or, n_rem, forall_eq, true_and, and_true, implies_true, true_implies, false_implies, not_true_eq_false, not_false_eq_true, Nat.zero_add, Nat.add_zero, ite_true, ite_false, if_true, if_false, true_or, or_true, false_or, or_false, and_self, and_false, false_and, Nat.reduceEqDiff, reduceIte, fI_sI, fI_sL, fI_sA, fI_sB, fL_sI, fL_sL, fL_sA, fL_sB, fA_sI, fA_sL, fA_sA, fA_sB, fB_sI, fB_sL, fB_sA, fB_sB]
    rw [c1]
    unfold mw_codesTell_27
    intro X hX
    have key : ∀ (rest : List Nat) (i : Nat) (k : List Bool) (l : List Int) (σ1 : FS), cs.drop i = rest → i ≤ cs.length → tyL al rest k = some [kd] → fitV k l → mPi σ1 l → l.length ≤ i → Fm [51, 109] [] [108] σ σ1 → evL (zPt s p t sd) lk0 rest l = evL (zPt s p t sd) lk0 cs [] → X (nI w) (nI (f + i)) σ1 := by
      intro rest
      induction rest with
      | nil =>
        intro i k l σ1 hd hi hk hf hm hl hF he
        have hi2 : i = cs.length := by
          have := List.drop_eq_nil_iff.mp hd
          omega
        simp only [tyL] at hk
        cases hk
        obtain ⟨v, rfl, -⟩ := fitV_one hf
        have e46 : fA σ1 46 = fA σ 46 := hF.2.1 46 (by decide)
        refine hX _ _ _ ?_
        simp (disch := omega) only [i_0, i_1, i_2, i_3, i_4, i_5, i_6, i_7, i_8, i_9, i_10, i_11, i_12, i_13, i_16, i_19, i_20, i_21, i_22, i_23, i_24, i_25, i_30, i_31, i_32, i_39, i_40, i_41, i_42, i_43, i_44, i_45, i_47, i_48, i_49, i_50, i_51, i_52, i_57, i_59, i_60, i_61, i_62, i_63, i_64, i_71, i_72, i_80, i_91, i_93, i_97, i_99, i_100, i_122, i_227, i_228, i_232, i_251, i_255, i_256, i_463, i_999, i_1000, i_1519, i_1600, i_9999, i_100000000, i_2147483639, i_2147483647, neg_nI1, nI_add, pk_mul, nI_remL, pk_sub, pk_div, nI_clamp, nI_leI, nI_ltI, nI_eq, vpT, nI_m1, m1_nI, nI_lem1, m1_le, m1_lt, nI_ltm1, nI_bit, nI_shl, nI_xor, nI_or, n_rem, forall_eq, true_and, and_true, implies_true, true_implies, false_implies, not_true_eq_false, not_false_eq_true, Nat.zero_add, Nat.add_zero, ite_true, ite_false, if_true, if_false, true_or, or_true, false_or, or_false, and_self, and_false, false_and, Nat.reduceEqDiff, reduceIte]
        rw [e46, c2]
        simp (disch := omega) only [i_0, i_1, i_2, i_3, i_4, i_5, i_6, i_7, i_8, i_9, i_10, i_11, i_12, i_13, i_16, i_19, i_20, i_21, i_22, i_23, i_24, i_25, i_30, i_31, i_32, i_39, i_40, i_41, i_42, i_43, i_44, i_45, i_47, i_48, i_49, i_50, i_51, i_52, i_57, i_59, i_60, i_61, i_62, i_63, i_64, i_71, i_72, i_80, i_91, i_93, i_97, i_99, i_100, i_122, i_227, i_228, i_232, i_251, i_255, i_256, i_463, i_999, i_1000, i_1519, i_1600, i_9999, i_100000000, i_2147483639, i_2147483647, neg_nI1, nI_add, pk_mul, nI_remL, pk_sub, pk_div, nI_clamp, nI_leI, nI_ltI, nI_eq, vpT, nI_m1, m1_nI, nI_lem1, m1_le, m1_lt, nI_ltm1, nI_bit, nI_shl, nI_xor, nI_or, n_rem, forall_eq, true_and, and_true, implies_true, true_implies, false_implies, not_true_eq_false, not_false_eq_true, Nat.zero_add, Nat.add_zero, ite_true, ite_false, if_true, if_false, true_or, or_true, false_or, or_false, and_self, and_false, false_and, Nat.reduceEqDiff, reduceIte]
        refine ⟨fun _ => ?_, fun z => absurd (show f + cs.length ≤ f + i by omega) z⟩
        have h2 : fB σ1 108 0 = lI v := hm.2.1
        rw [h2]
        have h3 := hQ σ1 hF
        unfold evV at h3
        rw [← he] at h3
        exact h3
      | cons c rest ih =>
        intro i k l σ1 hd hi hk hf hm hl hF he
        obtain ⟨g1, g2, g3⟩ := drop_cons hd
        simp only [tyL] at hk
        have e46 : fA σ1 46 = fA σ 46 := hF.2.1 46 (by decide)
        have e47 : fA σ1 47 (1600 + (f + i)) = nI c := by rw [hF.2.1 47 (by decide)]; exact c4 i c g1
        have hA1 : mAk σ1 p t sd := ⟨(hF.1 54 (by decide)).trans hA.1, (hF.1 55 (by decide)).trans hA.2.1, (hF.1 56 (by decide)).trans hA.2.2⟩
        have hP1 : mP σ1 P := hP.fm hF (by decide) (by decide) (by decide)
        have hN1 : mN σ1 P s := hN.eqv (hF.2.1 52 (by decide))
        cases hs : tyS al c k with
        | none => rw [hs] at hk; cases hk
        | some k1 =>
          rw [hs] at hk
          have hfit := evS_fit (lk := lk0) (fun i hi _ => hpt i hi) hs hf
          have step : ∀ σ2, Fm [51, 109] [] [108] σ1 σ2 → mPi σ2 (evS (zPt s p t sd) lk0 c l) → X (nI w) (nI (f + i + 1)) σ2 := by
            intro σ2 hF2 hm2
            rw [Nat.add_assoc]
            refine ih (i + 1) k1 _ σ2 g2 (by omega) hk hfit hm2 ?_ (hF.trans hF2) he
            have := fitV_len hfit
            have := fitV_len hf
            rcases tyS_cases hs with ⟨h1, h2, rfl⟩ | ⟨h1, h2, h3, r, rfl, rfl⟩ | ⟨h1, h2, h3, rfl⟩ | ⟨rfl, rfl⟩ | ⟨rfl, r, rfl, rfl⟩ | ⟨h1, h2, r, rfl, rfl⟩ | ⟨h1, h2, r, rfl, rfl⟩ | ⟨h1, h2, r, rfl, rfl⟩ <;> simp only [List.length_cons] at * <;> omega
          refine hX _ _ _ ?_
          unfold mw_codesTell_147
          have hc11 : c < 11000 := by rcases tyS_cases hs with ⟨h1, h2, _⟩ | ⟨h1, h2, _⟩ | ⟨h1, h2, _⟩ | ⟨rfl, _⟩ | ⟨rfl, _⟩ | ⟨h1, h2, _⟩ | ⟨h1, h2, _⟩ | ⟨h1, h2, _⟩ <;> omega
          simp (disch := omega) only [i_0, i_1, i_2, i_3, i_4, i_5, i_6, i_7, i_8, i_9, i_10, i_11, i_12, i_13, i_16, i_19, i_20, i_21, i_22, i_23, i_24, i_25, i_30, i_31, i_32, i_39, i_40, i_41, i_42, i_43, i_44, i_45, i_47, i_48, i_49, i_50, i_51, i_52, i_57, i_59, i_60, i_61, i_62, i_63, i_64, i_71, i_72, i_80, i_91, i_93, i_97, i_99, i_100, i_122, i_227, i_228, i_232, i_251, i_255, i_256, i_463, i_999, i_1000, i_1519, i_1600, i_9999, i_100000000, i_2147483639, i_2147483647, neg_nI1, nI_add, pk_mul, nI_remL, pk_sub, pk_div, nI_clamp, nI_leI, nI_ltI, nI_eq, vpT, nI_m1, m1_nI, nI_lem1, m1_le, m1_lt, nI_ltm1, nI_bit, nI_shl, nI_xor, nI_or, n_rem, forall_eq, true_and, and_true, implies_true, true_implies, false_implies, not_true_eq_false, not_false_eq_true, Nat.zero_add, Nat.add_zero, ite_true, ite_false, if_true, if_false, true_or, or_true, false_or, or_false, and_self, and_false, false_and, Nat.reduceEqDiff, reduceIte, e46, c2, e47]
          refine ⟨fun z => absurd z (by omega), fun _ => ⟨fun a1 => ⟨fun a2 => ⟨fun a3 => ⟨fun a4 => ?_, fun a4 => ?_⟩, fun a3 => ?_⟩, fun a2 => ?_⟩, fun a1 => ?_⟩⟩
          · rcases tyS_cases hs with ⟨h1, h2, rfl⟩ | ⟨h1, h2, h3, r, rfl, rfl⟩ | ⟨h1, h2, h3, rfl⟩ | ⟨rfl, rfl⟩ | ⟨rfl, r, rfl, rfl⟩ | ⟨h1, h2, r, rfl, rfl⟩ | ⟨h1, h2, r, rfl, rfl⟩ | ⟨h1, h2, r, rfl, rfl⟩
            · omega
            · omega
            · omega
            · exact absurd rfl a3
            · exact absurd rfl a4
            · obtain ⟨b, l, rfl, hb, hf⟩ := fitV_1 hf
              obtain ⟨a, l, rfl, ha, hf⟩ := fitV_1 hf
              simp only [Bool.false_eq_true, if_false] at ha hb
              simp only [List.length_cons] at hl
              exact ml_joins hm (by omega) ⟨h1, by omega⟩ ha hb (fun σ2 hF2 hm2 => step σ2 (hF2.wide (by decide) (by decide) (by decide)) (by rw [evS_op (by omega)]; exact hm2))
            · obtain ⟨b, l, rfl, hb, hf⟩ := fitV_1 hf
              obtain ⟨a, l, rfl, ha, hf⟩ := fitV_1 hf
              simp only [Bool.false_eq_true, if_false] at ha hb
              simp only [List.length_cons] at hl
              exact ml_joins hm (by omega) ⟨by omega, by omega⟩ ha hb (fun σ2 hF2 hm2 => step σ2 (hF2.wide (by decide) (by decide) (by decide)) (by rw [evS_op (by omega)]; exact hm2))
            · obtain ⟨b, l, rfl, hb, hf⟩ := fitV_1 hf
              obtain ⟨a, l, rfl, ha, hf⟩ := fitV_1 hf
              simp only [if_true] at ha hb
              simp only [List.length_cons] at hl
              exact ml_joins hm (by omega) ⟨by omega, by omega⟩ (by omega) (by omega) (fun σ2 hF2 hm2 => step σ2 (hF2.wide (by decide) (by decide) (by decide)) (by rw [evS_op (by omega)]; exact hm2))
          · subst a4
            rcases tyS_cases hs with ⟨h1, h2, rfl⟩ | ⟨h1, h2, h3, r, rfl, rfl⟩ | ⟨h1, h2, h3, rfl⟩ | ⟨h1, rfl⟩ | ⟨h1, r, rfl, rfl⟩ | ⟨h1, h2, r, rfl, rfl⟩ | ⟨h1, h2, r, rfl, rfl⟩ | ⟨h1, h2, r, rfl, rfl⟩ <;> try omega
            obtain ⟨a, l, rfl, ha, hf⟩ := fitV_1 hf
            obtain ⟨m0, m1, m2⟩ := hm
            simp only [List.length_cons] at hl m0
            have e1 : fI σ1 0 109 - nI 1 = nI l.length := by rw [m0, pk_sub (by omega)]; rfl
            simp (disch := omega) only [i_0, i_1, i_2, i_3, i_4, i_5, i_6, i_7, i_8, i_9, i_10, i_11, i_12, i_13, i_16, i_19, i_20, i_21, i_22, i_23, i_24, i_25, i_30, i_31, i_32, i_39, i_40, i_41, i_42, i_43, i_44, i_45, i_47, i_48, i_49, i_50, i_51, i_52, i_57, i_59, i_60, i_61, i_62, i_63, i_64, i_71, i_72, i_80, i_91, i_93, i_97, i_99, i_100, i_122, i_227, i_228, i_232, i_251, i_255, i_256, i_463, i_999, i_1000, i_1519, i_1600, i_9999, i_100000000, i_2147483639, i_2147483647, neg_nI1, nI_add, pk_mul, nI_remL, pk_sub, pk_div, nI_clamp, nI_leI, nI_ltI, nI_eq, vpT, nI_m1, m1_nI, nI_lem1, m1_le, m1_lt, nI_ltm1, nI_bit, nI_shl, nI_xor, nI_or, n_rem, forall_eq, true_and, and_true, implies_true, true_implies, false_implies, not_true_eq_false, not_false_eq_true, Nat.zero_add, Nat.add_zero, ite_true, ite_false, if_true, if_false, true_or, or_true, false_or, or_false, and_self, and_false, false_and, Nat.reduceEqDiff, reduceIte, e1, m1]
            refine step _ (Fm.sB σ1 (a := 108) _ _ (by decide)) ?_
            rw [evS_12]
            refine ⟨m0, ?_, pil_eq m2 (fun i hi => by rw [fB_sB, if_neg (by omega)])⟩
            rw [fB_sB, if_pos ⟨rfl, rfl⟩]
            show (1 : Int64) - lI a = _
            rw [l_1, lI_sub]
          · subst a3
            exact ml_puts (v := 1) hm (by omega) (fun σ2 hF2 hm2 => step σ2 (hF2.wide (by decide) (by decide) (by decide)) (by rw [evS_13]; exact hm2))
          · rcases tyS_cases hs with ⟨h1, h2, rfl⟩ | ⟨h1, h2, h3, r, rfl, rfl⟩ | ⟨h1, h2, h3, rfl⟩ | ⟨h1, rfl⟩ | ⟨h1, r, rfl, rfl⟩ | ⟨h1, h2, r, rfl, rfl⟩ | ⟨h1, h2, r, rfl, rfl⟩ | ⟨h1, h2, r, rfl, rfl⟩ <;> try omega
            · have := hal _ h3; omega
            · rw [pk_sub (by omega)]
              refine ml_partOf hP1 hN1 hA1 hp (by omega) (by omega) (by omega) ?_
              exact ml_puts hm (by omega) (fun σ2 hF2 hm2 => step σ2 (hF2.wide (by decide) (by decide) (by decide)) (by rw [evS_pt h1 (by omega)]; exact hm2))
          · rw [pk_sub (by omega), nI_toL (by omega)]
            exact ml_puts hm (by omega) (fun σ2 hF2 hm2 => step σ2 (hF2.wide (by decide) (by decide) (by decide)) (by rw [evS_num (by omega)]; exact hm2))
    refine key cs 0 [] [] _ rfl (by omega) hty trivial ⟨?_, trivial⟩ (by simp) ((Fm.sI σ _ (by decide)).trans (Fm.sI _ _ (by decide))) rfl
    rw [fI_sI]; simp
  unfold mw_codesTell
  exact ⟨fun _ => main _, fun _ => main _⟩
