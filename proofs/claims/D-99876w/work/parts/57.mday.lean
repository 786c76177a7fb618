/-! THE REFERENCE: days, what is put aside, guards -/
theorem nxt_ok {P : Pl} {s : St} (hs : stOK P s) (h : zD s < 5000) : stOK P (nxt s) := ⟨h, hs.2.1, hs.2.2.1, hs.2.2.2⟩
theorem ml_listMany {σ : FS} {P : Pl} {Q : Int32 → FS → Prop} (hP : mP σ P) (hQ : Q (nI (plL P).length) σ) : mw_listMany σ Q := by
  unfold mw_listMany
  simp (disch := omega) only [i_0, i_1, i_2, i_3, i_4, i_5, i_6, i_7, i_8, i_9, i_10, i_11, i_12, i_13, i_16, i_19, i_20, i_21, i_22, i_23, i_24, i_25, i_30, i_31, i_32, i_39, i_40, i_41, i_42, i_43, i_44, i_45, i_47, i_48, i_49, i_50, i_51, i_52, i_57, i_59, i_60, i_61, i_62, i_63, i_64, i_71, i_72, i_80, i_91, i_93, i_97, i_99, i_100, i_122, i_227, i_228, i_232, i_251, i_255, i_256, i_463, i_999, i_1000, i_1519, i_1600, i_9999, i_100000000, i_2147483639, i_2147483647, neg_nI1, nI_add, pk_mul, nI_remL, pk_sub, pk_div, nI_clamp, nI_leI, nI_ltI, nI_eq, vpT, nI_m1, m1_nI, nI_lem1, m1_le, m1_lt, nI_ltm1, nI_bit, nI_shl, nI_xor, nI_or, n_rem, forall_eq, true_and, and_true, implies_true, true_implies, false_implies, not_true_eq_false, not_false_eq_true, Nat.zero_add, Nat.add_zero, ite_true, ite_false, if_true, if_false, true_or, or_true, false_or, or_false, and_self, and_false, false_and, Nat.reduceEqDiff, reduceIte]
  rw [hP.2.2.2.1.2.2]; exact hQ
theorem ml_personMany {σ : FS} {P : Pl} {Q : Int32 → FS → Prop} (hP : mP σ P) (hQ : Q (nI (nP P)) σ) : mw_personMany σ Q := by
  unfold mw_personMany
  simp (disch := omega) only [i_0, i_1, i_2, i_3, i_4, i_5, i_6, i_7, i_8, i_9, i_10, i_11, i_12, i_13, i_16, i_19, i_20, i_21, i_22, i_23, i_24, i_25, i_30, i_31, i_32, i_39, i_40, i_41, i_42, i_43, i_44, i_45, i_47, i_48, i_49, i_50, i_51, i_52, i_57, i_59, i_60, i_61, i_62, i_63, i_64, i_71, i_72, i_80, i_91, i_93, i_97, i_99, i_100, i_122, i_227, i_228, i_232, i_251, i_255, i_256, i_463, i_999, i_1000, i_1519, i_1600, i_9999, i_100000000, i_2147483639, i_2147483647, neg_nI1, nI_add, pk_mul, nI_remL, pk_sub, pk_div, nI_clamp, nI_leI, nI_ltI, nI_eq, vpT, nI_m1, m1_nI, nI_lem1, m1_le, m1_lt, nI_ltm1, nI_bit, nI_shl, nI_xor, nI_or, n_rem, forall_eq, true_and, and_true, implies_true, true_implies, false_implies, not_true_eq_false, not_false_eq_true, Nat.zero_add, Nat.add_zero, ite_true, ite_false, if_true, if_false, true_or, or_true, false_or, or_false, and_self, and_false, false_and, Nat.reduceEqDiff, reduceIte]
  rw [hP.2.2.2.1.2.1]; exact hQ
theorem ml_topicMany {σ : FS} {P : Pl} {Q : Int32 → FS → Prop} (hP : mP σ P) (hQ : Q (nI (nT P)) σ) : mw_topicMany σ Q := by
  unfold mw_topicMany
  simp (disch := omega) only [i_0, i_1, i_2, i_3, i_4, i_5, i_6, i_7, i_8, i_9, i_10, i_11, i_12, i_13, i_16, i_19, i_20, i_21, i_22, i_23, i_24, i_25, i_30, i_31, i_32, i_39, i_40, i_41, i_42, i_43, i_44, i_45, i_47, i_48, i_49, i_50, i_51, i_52, i_57, i_59, i_60, i_61, i_62, i_63, i_64, i_71, i_72, i_80, i_91, i_93, i_97, i_99, i_100, i_122, i_227, i_228, i_232, i_251, i_255, i_256, i_463, i_999, i_1000, i_1519, i_1600, i_9999, i_100000000, i_2147483639, i_2147483647, neg_nI1, nI_add, pk_mul, nI_remL, pk_sub, pk_div, nI_clamp, nI_leI, nI_ltI, nI_eq, vpT, nI_m1, m1_nI, nI_lem1, m1_le, m1_lt, nI_ltm1, nI_bit, nI_shl, nI_xor, nI_or, n_rem, forall_eq, true_and, and_true, implies_true, true_implies, false_implies, not_true_eq_false, not_false_eq_true, Nat.zero_add, Nat.add_zero, ite_true, ite_false, if_true, if_false, true_or, or_true, false_or, or_false, and_self, and_false, false_and, Nat.reduceEqDiff, reduceIte]
  rw [hP.2.2.2.1.1]; exact hQ
theorem ml_day42 {σ : FS} {P : Pl} {s : St} {th : Nat} {Q : FS → Prop} (hN : mN σ P s) (hd : zD s < 5000) (hK : th = 0 → mKe σ (zE s)) (hQ : ∀ σ', Fm [] [52] [] σ σ' → mNK th σ σ' P s (nxt s) → Q σ') : mw_dayGoes_42 σ Q := by
  unfold mw_dayGoes_42
  simp (disch := omega) only [i_0, i_1, i_2, i_3, i_4, i_5, i_6, i_7, i_8, i_9, i_10, i_11, i_12, i_13, i_16, i_19, i_20, i_21, i_22, i_23, i_24, i_25, i_30, i_31, i_32, i_39, i_40, i_41, i_42, i_43, i_44, i_45, i_47, i_48, i_49, i_50, i_51, i_52, i_57, i_59, i_60, i_61, i_62, i_63, i_64, i_71, i_72, i_80, i_91, i_93, i_97, i_99, i_100, i_122, i_227, i_228, i_232, i_251, i_255, i_256, i_463, i_999, i_1000, i_1519, i_1600, i_9999, i_100000000, i_2147483639, i_2147483647, neg_nI1, nI_add, pk_mul, nI_remL, pk_sub, pk_div, nI_clamp, nI_leI, nI_ltI, nI_eq, vpT, nI_m1, m1_nI, nI_lem1, m1_le, m1_lt, nI_ltm1, nI_bit, nI_shl, nI_xor, nI_or, n_rem, forall_eq, true_and, and_true, implies_true, true_implies, false_implies, not_true_eq_false, not_false_eq_true, Nat.zero_add, Nat.add_zero, ite_true, ite_false, if_true, if_false, true_or, or_true, false_or, or_false, and_self, and_false, false_and, Nat.reduceEqDiff, reduceIte]
  rw [hN.2.1, nI_add]
  refine hQ _ (Fm.sA σ _ _ (by decide)) ⟨⟨nxt_ok hN.1 hd, ?_, ?_, ?_⟩, ?_, ?_⟩
  · rw [fA_sA, if_pos ⟨rfl, rfl⟩]; rfl
  · intro c hc
    rw [fA_sA, if_neg (by omega)]; exact hN.2.2.1 c hc
  · intro p hp
    rw [fA_sA, if_neg (by omega), fA_sA, if_neg (by omega), fA_sA, if_neg (by omega)]; exact hN.2.2.2 p hp
  · intro _ hk
    refine ⟨by rw [fA_sA, if_neg (by omega)]; exact hk.1, hk.2.1, fun k r hr => ?_⟩
    rw [fA_sA, if_neg (by omega), fA_sA, if_neg (by omega), fA_sA, if_neg (by omega), fA_sA, if_neg (by omega)]; exact hk.2.2 k r hr
  · intro _ k hk
    rw [fA_sA, if_neg (by omega)]
theorem zAs_D (P : Pl) (sil : Nat) (s : St) (p t : Nat) : zD (zAs P sil s p t) = zD s := by unfold zAs; split <;> rfl
theorem ml_dayGoes {σ : FS} {P : Pl} {s : St} {th sil : Nat} {Q : FS → Prop} (hP : mP σ P) (hN : mN σ P s) (hS : mSd σ) (hd : zD s < 5000) (h57 : fI σ 0 57 = nI th) (hth : th < 2) (h60 : fI σ 0 60 = nI sil) (hsil : sil < 128) (hK : th = 0 → mKe σ (zE s))
    (hQ : ∀ σ', Fm kAs [52] [108] σ σ' → mNK th σ σ' P s (zDy P sil s) → mSd σ' → fI σ' 0 58 = fI σ 0 58 + nI (zDc P sil s) → Q σ') : mw_dayGoes σ Q := by
  unfold mw_dayGoes
  refine ml_listMany hP ?_
  have h12 := hP.1.2.2.2.2.2.1
  simp (disch := omega) only [i_0, i_1, i_2, i_3, i_4, i_5, i_6, i_7, i_8, i_9, i_10, i_11, i_12, i_13, i_16, i_19, i_20, i_21, i_22, i_23, i_24, i_25, i_30, i_31, i_32, i_39, i_40, i_41, i_42, i_43, i_44, i_45, i_47, i_48, i_49, i_50, i_51, i_52, i_57, i_59, i_60, i_61, i_62, i_63, i_64, i_71, i_72, i_80, i_91, i_93, i_97, i_99, i_100, i_122, i_227, i_228, i_232, i_251, i_255, i_256, i_463, i_999, i_1000, i_1519, i_1600, i_9999, i_100000000, i_2147483639, i_2147483647, neg_nI1, nI_add, pk_mul, nI_remL, pk_sub, pk_div, nI_clamp, nI_leI, nI_ltI, nI_eq, vpT, nI_m1, m1_nI, nI_lem1, m1_le, m1_lt, nI_ltm1, nI_bit, nI_shl, nI_xor, nI_or, n_rem, forall_eq, true_and, and_true, implies_true, true_implies, false_implies, not_true_eq_false, not_false_eq_true, Nat.zero_add, Nat.add_zero, ite_true, ite_false, if_true, if_false, true_or, or_true, false_or, or_false, and_self, and_false, false_and, Nat.reduceEqDiff, reduceIte]
  refine ⟨fun c => ?_, fun c => ?_⟩
  · have e : (plL P)[zD s % (plL P).length]? = none := by
      rw [List.getElem?_eq_none_iff]; omega
    unfold zDy zDc at hQ
    simp only [e] at hQ
    refine ml_day42 hN hd hK (fun σ' hF hN' => hQ σ' (hF.wide (by decide) (by decide) (by decide)) hN' ?_ ?_)
    · obtain ⟨sd, q1, q2⟩ := hS
      exact ⟨sd, q1, by rw [hF.1 56 (by decide)]; exact q2⟩
    · rw [hF.1 58 (by decide)]; exact (Int32.add_zero _).symm
  · have hlt : zD s % (plL P).length < (plL P).length := Nat.mod_lt _ (by omega)
    obtain ⟨q, hq⟩ : ∃ q, (plL P)[zD s % (plL P).length]? = some q := ⟨_, List.getElem?_eq_getElem hlt⟩
    obtain ⟨e1, e2⟩ := hP.2.2.2.2.1 _ q hq
    obtain ⟨g1, g2⟩ := hP.1.2.2.2.2.2.2.1 q (List.mem_of_getElem? hq)
    rw [hN.2.1]
    simp (disch := omega) only [i_0, i_1, i_2, i_3, i_4, i_5, i_6, i_7, i_8, i_9, i_10, i_11, i_12, i_13, i_16, i_19, i_20, i_21, i_22, i_23, i_24, i_25, i_30, i_31, i_32, i_39, i_40, i_41, i_42, i_43, i_44, i_45, i_47, i_48, i_49, i_50, i_51, i_52, i_57, i_59, i_60, i_61, i_62, i_63, i_64, i_71, i_72, i_80, i_91, i_93, i_97, i_99, i_100, i_122, i_227, i_228, i_232, i_251, i_255, i_256, i_463, i_999, i_1000, i_1519, i_1600, i_9999, i_100000000, i_2147483639, i_2147483647, neg_nI1, nI_add, pk_mul, nI_remL, pk_sub, pk_div, nI_clamp, nI_leI, nI_ltI, nI_eq, vpT, nI_m1, m1_nI, nI_lem1, m1_le, m1_lt, nI_ltm1, nI_bit, nI_shl, nI_xor, nI_or, n_rem, forall_eq, true_and, and_true, implies_true, true_implies, false_implies, not_true_eq_false, not_false_eq_true, Nat.zero_add, Nat.add_zero, ite_true, ite_false, if_true, if_false, true_or, or_true, false_or, or_false, and_self, and_false, false_and, Nat.reduceEqDiff, reduceIte]
    have e24 : 24 + 2 * (zD s % (plL P).length) + 1 = 25 + 2 * (zD s % (plL P).length) := by omega
    rw [e24, e1, e2]
    unfold zDy zDc at hQ
    simp only [hq] at hQ
    refine ⟨by omega, ml_isAsked hP hN hS g1 g2 h57 hth h60 hsil hK (fun σ1 hF1 hN1 hS1 h59 h58 => ?_)⟩
    refine ml_day42 (th := th) hN1.1 (by rw [zAs_D]; exact hd) (fun z => hN1.2.1 z (hK z)) (fun σ2 hF2 hN2 => hQ σ2 (hF1.trans (hF2.wide (by decide) (by decide) (by decide))) (hN1.trans hN2) ?_ ?_)
    · obtain ⟨sd, q1, q2⟩ := hS1
      exact ⟨sd, q1, by rw [hF2.1 56 (by decide)]; exact q2⟩
    · rw [hF2.1 58 (by decide)]; exact h58
theorem zDy_D (P : Pl) (sil : Nat) (s : St) : zD (zDy P sil s) = zD s + 1 := by
  unfold zDy
  split
  · rfl
  · show zD (zAs _ _ _ _ _) + 1 = _
    rw [zAs_D]
theorem ml_daysGo {σ : FS} {P : Pl} {s : St} {th sil n : Nat} {Q : FS → Prop} (hn : n ≤ 1000) (hP : mP σ P) (hN : mN σ P s) (hS : mSd σ) (hd : zD s + n ≤ 5000) (h57 : fI σ 0 57 = nI th) (hth : th < 2) (h60 : fI σ 0 60 = nI sil) (hsil : sil < 128) (hK : th = 0 → mKe σ (zE s))
    (hQ : ∀ σ', Fm kAs [52] [108] σ σ' → mNK th σ σ' P s (zDs P sil n s) → mSd σ' → fI σ' 0 58 = fI σ 0 58 + nI (zDn P sil n s) → Q σ') : mw_daysGo (nI n) σ Q := by
  unfold mw_daysGo mw_daysGo_2
  intro X hX
  have key : ∀ j k (s1 : St) (σ1 : FS) (a : Nat), n - k = j → k ≤ n → Fm kAs [52] [108] σ σ1 → mNK th σ σ1 P s s1 → mSd σ1 → zD s1 + j ≤ 5000 → fI σ1 0 58 = fI σ 0 58 + nI a → zDs P sil j s1 = zDs P sil n s → a + zDn P sil j s1 = zDn P sil n s → X (nI n) (nI k) σ1 := by
    intro j
    induction j with
    | zero =>
      intro k s1 σ1 a hj hk hF hN1 hS1 hd1 h58 e1 e2
      refine hX _ _ _ ⟨fun _ => ?_, fun z => absurd ((nI_leI (by omega) (by omega)).mpr (by omega)) z⟩
      simp only [zDs, zDn] at e1 e2
      subst e1
      exact hQ σ1 hF hN1 hS1 (by rw [← e2]; exact h58)
    | succ j ih =>
      intro k s1 σ1 a hj hk hF hN1 hS1 hd1 h58 e1 e2
      refine hX _ _ _ ⟨fun z => absurd ((nI_leI (by omega) (by omega)).mp z) (by omega), fun _ => ?_⟩
      refine ml_dayGoes (hP.fm hF (by decide) (by decide) (by decide)) hN1.1 hS1 (by omega) (by rw [hF.1 57 (by decide)]; exact h57) hth (by rw [hF.1 60 (by decide)]; exact h60) hsil (fun z => hN1.2.1 z (hK z)) (fun σ2 hF2 hN2 hS2 h582 => ?_)
      rw [nI_1]
      refine ih (k + 1) (zDy P sil s1) σ2 (a + zDc P sil s1) (by omega) (by omega) (hF.trans hF2) (hN1.trans hN2) hS2 (by rw [zDy_D]; omega) ?_ e1 ?_
      · rw [h582, h58, Int32.add_assoc, nI_add]
      · rw [← e2]; simp only [zDn]; omega
  exact key n 0 s σ 0 rfl (by omega) (Fm.refl _ _ _ _) ⟨hN, fun _ h => h, fun _ _ _ => rfl⟩ hS hd (Int32.add_zero _).symm rfl (by rw [Nat.zero_add])
theorem ml_putsAside {σ : FS} {Q : FS → Prop} (hQ : ∀ σ', Fm [57] [53] [] σ σ' → fI σ' 0 57 = nI 1 → (∀ k, k < 71 → fA σ' 53 k = fA σ 52 k) → Q σ') : mw_putsAside σ Q := by
  unfold mw_putsAside mw_putsAside_7
  simp (disch := omega) only [i_0, i_1, i_2, i_3, i_4, i_5, i_6, i_7, i_8, i_9, i_10, i_11, i_12, i_13, i_16, i_19, i_20, i_21, i_22, i_23, i_24, i_25, i_30, i_31, i_32, i_39, i_40, i_41, i_42, i_43, i_44, i_45, i_47, i_48, i_49, i_50, i_51, i_52, i_57, i_59, i_60, i_61, i_62, i_63, i_64, i_71, i_72, i_80, i_91, i_93, i_97, i_99, i_100, i_122, i_227, i_228, i_232, i_251, i_255, i_256, i_463, i_999, i_1000, i_1519, i_1600, i_9999, i_100000000, i_2147483639, i_2147483647, neg_nI1, nI_add, pk_mul, nI_remL, pk_sub, pk_div, nI_clamp, nI_leI, nI_ltI, nI_eq, vpT, nI_m1, m1_nI, nI_lem1, m1_le, m1_lt, nI_ltm1, nI_bit, nI_shl, nI_xor, nI_or, n_rem, forall_eq, true_and, and_true, implies_true, true_implies, false_implies, not_true_eq_false, not_false_eq_true, Nat.zero_add, Nat.add_zero, ite_true, ite_false, if_true, if_false, true_or, or_true, false_or, or_false, and_self, and_false, false_and, Nat.reduceEqDiff, reduceIte, fI_sI, fI_sL, fI_sA, fI_sB, fL_sI, fL_sL, fL_sA, fL_sB, fA_sI, fA_sL, fA_sA, fA_sB, fB_sI, fB_sL, fB_sA, fB_sB]
  intro X hX
  have key : ∀ j k (σ1 : FS), 71 - k = j → k ≤ 71 → Fm [57] [53] [] σ σ1 → fI σ1 0 57 = nI 1 → (∀ i, i < k → fA σ1 53 i = fA σ 52 i) → X (nI k) σ1 := by
    intro j
    induction j with
    | zero =>
      intro k σ1 hj hk hF h57 hc
      refine hX _ _ ?_
      simp (disch := omega) only [i_0, i_1, i_2, i_3, i_4, i_5, i_6, i_7, i_8, i_9, i_10, i_11, i_12, i_13, i_16, i_19, i_20, i_21, i_22, i_23, i_24, i_25, i_30, i_31, i_32, i_39, i_40, i_41, i_42, i_43, i_44, i_45, i_47, i_48, i_49, i_50, i_51, i_52, i_57, i_59, i_60, i_61, i_62, i_63, i_64, i_71, i_72, i_80, i_91, i_93, i_97, i_99, i_100, i_122, i_227, i_228, i_232, i_251, i_255, i_256, i_463, i_999, i_1000, i_1519, i_1600, i_9999, i_100000000, i_2147483639, i_2147483647, neg_nI1, nI_add, pk_mul, nI_remL, pk_sub, pk_div, nI_clamp, nI_leI, nI_ltI, nI_eq, vpT, nI_m1, m1_nI, nI_lem1, m1_le, m1_lt, nI_ltm1, nI_bit, nI_shl, nI_xor, nI_or, n_rem]
      exact ⟨fun _ => hQ σ1 hF h57 (fun i hi => hc i (by omega)), fun z => absurd (by omega) z⟩
    | succ j ih =>
      intro k σ1 hj hk hF h57 hc
      refine hX _ _ ?_
      simp (disch := omega) only [i_0, i_1, i_2, i_3, i_4, i_5, i_6, i_7, i_8, i_9, i_10, i_11, i_12, i_13, i_16, i_19, i_20, i_21, i_22, i_23, i_24, i_25, i_30, i_31, i_32, i_39, i_40, i_41, i_42, i_43, i_44, i_45, i_47, i_48, i_49, i_50, i_51, i_52, i_57, i_59, i_60, i_61, i_62, i_63, i_64, i_71, i_72, i_80, i_91, i_93, i_97, i_99, i_100, i_122, i_227, i_228, i_232, i_251, i_255, i_256, i_463, i_999, i_1000, i_1519, i_1600, i_9999, i_100000000, i_2147483639, i_2147483647, neg_nI1, nI_add, pk_mul, nI_remL, pk_sub, pk_div, nI_clamp, nI_leI, nI_ltI, nI_eq, vpT, nI_m1, m1_nI, nI_lem1, m1_le, m1_lt, nI_ltm1, nI_bit, nI_shl, nI_xor, nI_or, n_rem, forall_eq, true_and, and_true, implies_true, true_implies, false_implies, not_true_eq_false, not_false_eq_true, Nat.zero_add, Nat.add_zero, ite_true, ite_false, if_true, if_false, true_or, or_true, false_or, or_false, and_self, and_false, false_and, Nat.reduceEqDiff, reduceIte]
      refine ⟨fun z => absurd z (by omega), fun _ => ih (k + 1) _ (by omega) (by omega) (hF.trans (Fm.sA σ1 _ _ (by decide))) (by rw [fI_sA]; exact h57) (fun i hi => ?_)⟩
      by_cases z : i = k
      · subst z; rw [fA_sA, if_pos ⟨rfl, rfl⟩, hF.2.1 52 (by decide)]
      · rw [fA_sA, if_neg (by omega)]; exact hc i (by omega)
  exact key 71 0 _ rfl (by omega) (Fm.sI σ _ (by decide)) (by rw [fI_sI]; simp) (fun i hi => by omega)
theorem ml_triesAnew {σ : FS} {Q : FS → Prop} (hQ : ∀ σ', Fm [] [52] [] σ σ' → (∀ k, k < 71 → fA σ' 52 k = fA σ 53 k) → (∀ k, 71 ≤ k → fA σ' 52 k = fA σ 52 k) → Q σ') : mw_triesAnew σ Q := by
  unfold mw_triesAnew mw_triesAnew_2
  intro X hX
  have key : ∀ j k (σ1 : FS), 71 - k = j → k ≤ 71 → Fm [] [52] [] σ σ1 → (∀ i, i < k → fA σ1 52 i = fA σ 53 i) → (∀ i, k ≤ i → fA σ1 52 i = fA σ 52 i) → X (nI k) σ1 := by
    intro j
    induction j with
    | zero =>
      intro k σ1 hj hk hF hc ho
      refine hX _ _ ?_
      simp (disch := omega) only [i_0, i_1, i_2, i_3, i_4, i_5, i_6, i_7, i_8, i_9, i_10, i_11, i_12, i_13, i_16, i_19, i_20, i_21, i_22, i_23, i_24, i_25, i_30, i_31, i_32, i_39, i_40, i_41, i_42, i_43, i_44, i_45, i_47, i_48, i_49, i_50, i_51, i_52, i_57, i_59, i_60, i_61, i_62, i_63, i_64, i_71, i_72, i_80, i_91, i_93, i_97, i_99, i_100, i_122, i_227, i_228, i_232, i_251, i_255, i_256, i_463, i_999, i_1000, i_1519, i_1600, i_9999, i_100000000, i_2147483639, i_2147483647, neg_nI1, nI_add, pk_mul, nI_remL, pk_sub, pk_div, nI_clamp, nI_leI, nI_ltI, nI_eq, vpT, nI_m1, m1_nI, nI_lem1, m1_le, m1_lt, nI_ltm1, nI_bit, nI_shl, nI_xor, nI_or, n_rem]
      exact ⟨fun _ => hQ σ1 hF (fun i hi => hc i (by omega)) (fun i hi => ho i (by omega)), fun z => absurd (by omega) z⟩
    | succ j ih =>
      intro k σ1 hj hk hF hc ho
      refine hX _ _ ?_
      simp (disch := omega) only [i_0, i_1, i_2, i_3, i_4, i_5, i_6, i_7, i_8, i_9, i_10, i_11, i_12, i_13, i_16, i_19, i_20, i_21, i_22, i_23, i_24, i_25, i_30, i_31, i_32, i_39, i_40, i_41, i_42, i_43, i_44, i_45, i_47, i_48, i_49, i_50, i_51, i_52, i_57, i_59, i_60, i_61, i_62, i_63, i_64, i_71, i_72, i_80, i_91, i_93, i_97, i_99, i_100, i_122, i_227, i_228, i_232, i_251, i_255, i_256, i_463, i_999, i_1000, i_1519, i_1600, i_9999, i_100000000, i_2147483639, i_2147483647, neg_nI1, nI_add, pk_mul, nI_remL, pk_sub, pk_div, nI_clamp, nI_leI, nI_ltI, nI_eq, vpT, nI_m1, m1_nI, nI_lem1, m1_le, m1_lt, nI_ltm1, nI_bit, nI_shl, nI_xor, nI_or, n_rem, forall_eq, true_and, and_true, implies_true, true_implies, false_implies, not_true_eq_false, not_false_eq_true, Nat.zero_add, Nat.add_zero, ite_true, ite_false, if_true, if_false, true_or, or_true, false_or, or_false, and_self, and_false, false_and, Nat.reduceEqDiff, reduceIte]
      refine ⟨fun z => absurd z (by omega), fun _ => ih (k + 1) _ (by omega) (by omega) (hF.trans (Fm.sA σ1 _ _ (by decide))) (fun i hi => ?_) (fun i hi => ?_)⟩
      · by_cases z : i = k
        · subst z; rw [fA_sA, if_pos ⟨rfl, rfl⟩, hF.2.1 53 (by decide)]
        · rw [fA_sA, if_neg (by omega)]; exact hc i (by omega)
      · rw [fA_sA, if_neg (by omega)]; exact ho i (by omega)
  exact key 71 0 σ rfl (by omega) (Fm.refl _ _ _ _) (fun i hi => by omega) (fun i _ => rfl)
theorem ml_takesBack {σ : FS} {Q : FS → Prop} (hQ : ∀ σ', Fm [57, 60] [52] [] σ σ' → fI σ' 0 57 = nI 0 → fI σ' 0 60 = nI 0 → (∀ k, k < 71 → fA σ' 52 k = fA σ 53 k) → (∀ k, 71 ≤ k → fA σ' 52 k = fA σ 52 k) → Q σ') : mw_takesBack σ Q := by
  unfold mw_takesBack
  refine ml_triesAnew (fun σ1 hF h1 h2 => ?_)
  simp (disch := omega) only [i_0, i_1, i_2, i_3, i_4, i_5, i_6, i_7, i_8, i_9, i_10, i_11, i_12, i_13, i_16, i_19, i_20, i_21, i_22, i_23, i_24, i_25, i_30, i_31, i_32, i_39, i_40, i_41, i_42, i_43, i_44, i_45, i_47, i_48, i_49, i_50, i_51, i_52, i_57, i_59, i_60, i_61, i_62, i_63, i_64, i_71, i_72, i_80, i_91, i_93, i_97, i_99, i_100, i_122, i_227, i_228, i_232, i_251, i_255, i_256, i_463, i_999, i_1000, i_1519, i_1600, i_9999, i_100000000, i_2147483639, i_2147483647, neg_nI1, nI_add, pk_mul, nI_remL, pk_sub, pk_div, nI_clamp, nI_leI, nI_ltI, nI_eq, vpT, nI_m1, m1_nI, nI_lem1, m1_le, m1_lt, nI_ltm1, nI_bit, nI_shl, nI_xor, nI_or, n_rem, forall_eq, true_and, and_true, implies_true, true_implies, false_implies, not_true_eq_false, not_false_eq_true, Nat.zero_add, Nat.add_zero, ite_true, ite_false, if_true, if_false, true_or, or_true, false_or, or_false, and_self, and_false, false_and, Nat.reduceEqDiff, reduceIte, fI_sI, fI_sL, fI_sA, fI_sB, fL_sI, fL_sL, fL_sA, fL_sB, fA_sI, fA_sL, fA_sA, fA_sB, fB_sI, fB_sL, fB_sA, fB_sB]
  refine hQ _ ((hF.wide (by decide) (by decide) (by decide)).trans ((Fm.sI _ _ (by decide)).trans (Fm.sI _ _ (by decide)))) ?_ ?_ h1 h2
  · rw [fI_sI]; simp
  · rw [fI_sI, fI_sI]; simp
/-! thinking: σ is thought of over σ0 -/
def Thk (sil : Nat) (σ0 σ : FS) : Prop := Fm (57 :: 60 :: kAs) [52, 53] [108] σ0 σ ∧ fI σ 0 57 = nI 1 ∧ fI σ 0 60 = nI sil ∧ (∀ k, k < 71 → fA σ 53 k = fA σ0 52 k) ∧ ∀ k, 71 ≤ k → fA σ 52 k = fA σ0 52 k
theorem ml_think {σ : FS} {Q : FS → Prop} (h60 : fI σ 0 60 = nI 0) (hQ : ∀ σ', Thk 0 σ σ' → fA σ' 52 = fA σ 52 → fI σ' 0 56 = fI σ 0 56 → Q σ') : mw_putsAside σ Q :=
  ml_putsAside (fun σ' hF h57 hc => hQ σ' ⟨hF.wide (by decide) (by decide) (by decide), h57, by rw [hF.1 60 (by decide)]; exact h60, hc, fun k _ => by rw [hF.2.1 52 (by decide)]⟩ (hF.2.1 52 (by decide)) (hF.1 56 (by decide)))
theorem Thk.step {sil : Nat} {σ0 σ σ' : FS} (h : Thk sil σ0 σ) (hF : Fm kAs [52] [108] σ σ') (ho : ∀ k, 71 ≤ k → fA σ' 52 k = fA σ 52 k) : Thk sil σ0 σ' :=
  ⟨h.1.trans (hF.wide (by decide) (by decide) (by decide)), by rw [hF.1 57 (by decide)]; exact h.2.1, by rw [hF.1 60 (by decide)]; exact h.2.2.1, fun k hk => by rw [hF.2.1 53 (by decide)]; exact h.2.2.2.1 k hk, fun k hk => (ho k hk).trans (h.2.2.2.2 k hk)⟩
/-- thinking ends: all is as it was -/
theorem ml_back {sil : Nat} {σ0 σ : FS} {Q : FS → Prop} (h : Thk sil σ0 σ) (hS : mSd σ) (h57 : fI σ0 0 57 = nI 0) (h60 : fI σ0 0 60 = nI 0) (hQ : ∀ σ', Fm kAs [53] [108] σ0 σ' → mSd σ' → Q σ') : mw_takesBack σ Q := by
  refine ml_takesBack (fun σ' hF g57 g60 h1 h2 => hQ σ' ?_ ?_)
  · obtain ⟨hA, -, -, hc, ho⟩ := h
    refine ⟨fun k hk => ?_, fun a ha => ?_, fun b hb => ?_, ?_⟩
    · by_cases z1 : k = 57
      · subst z1; rw [g57, h57]
      · by_cases z2 : k = 60
        · subst z2; rw [g60, h60]
        · rw [hF.1 k (by simp [z1, z2]), hA.1 k (by simp [z1, z2]; simpa using hk)]
    · by_cases z : a = 52
      · subst z
        funext k
        rcases Nat.lt_or_ge k 71 with q | q
        · rw [h1 k q, hc k q]
        · rw [h2 k q, ho k q]
      · rw [hF.2.1 a (by simpa using z), hA.2.1 a (by simp [z]; simpa using ha)]
    · rw [hF.2.2.1 b (by simp), hA.2.2.1 b hb]
    · rw [hF.2.2.2, hA.2.2.2]
  · obtain ⟨sd, q1, q2⟩ := hS
    exact ⟨sd, q1, by rw [hF.1 56 (by decide)]; exact q2⟩
/-- thinking begins anew -/
theorem ml_anew {sil : Nat} {σ0 σ : FS} {Q : FS → Prop} (h : Thk sil σ0 σ) (hS : mSd σ) (hQ : ∀ σ', Thk sil σ0 σ' → fA σ' 52 = fA σ0 52 → mSd σ' → Fm [] [52] [] σ σ' → Q σ') : mw_triesAnew σ Q := by
  refine ml_triesAnew (fun σ' hF h1 h2 => hQ σ' ?_ ?_ ?_ hF)
  · obtain ⟨hA, q1, q2, hc, ho⟩ := h
    exact ⟨hA.trans (hF.wide (by decide) (by decide) (by decide)), by rw [hF.1 57 (by decide)]; exact q1, by rw [hF.1 60 (by decide)]; exact q2, fun k hk => by rw [hF.2.1 53 (by decide)]; exact hc k hk, fun k hk => (h2 k hk).trans (ho k hk)⟩
  · funext k
    rcases Nat.lt_or_ge k 71 with q | q
    · rw [h1 k q, h.2.2.2.1 k q]
    · rw [h2 k q, h.2.2.2.2 k q]
  · obtain ⟨sd, q1, q2⟩ := hS
    exact ⟨sd, q1, by rw [hF.1 56 (by decide)]; exact q2⟩
/-! guards -/
def ix (x : Int32) (n : Nat) : Option Nat := if 0 ≤ x.toInt ∧ x.toInt < (n : Int) then some x.toInt.toNat else none
theorem ix_cases (x : Int32) (n : Nat) : (∃ j, ix x n = some j ∧ j < n ∧ x = nI j) ∨ (ix x n = none ∧ (x.toInt < 0 ∨ (n : Int) ≤ x.toInt)) := by
  unfold ix
  by_cases h : 0 ≤ x.toInt ∧ x.toInt < (n : Int)
  · rw [if_pos h]
    refine Or.inl ⟨_, rfl, by omega, ?_⟩
    have hx := Int32.toInt_lt x
    exact Int32.toInt_inj.mp (by rw [nI_toInt (by omega)]; omega)
  · rw [if_neg h]
    exact Or.inr ⟨rfl, by omega⟩
theorem ix_nI {j n : Nat} (h : j < n) (hn : n < 2 ^ 31) : ix (nI j) n = some j := by
  unfold ix
  rw [nI_toInt (by omega), if_pos (by omega)]
  simp
theorem ml_isIn {σ : FS} {x : Int32} {lo hi : Int64} {n : Nat} {Q : Int32 → FS → Prop} (h0 : lo.toInt = 0) (h1 : hi.toInt = (n : Int) - 1) (hs : ∀ j, ix x n = some j → j < n → x = nI j → Q (nI 1) σ) (hn : ix x n = none → Q (nI 0) σ) : mw_isIn x.toInt64 lo hi σ Q := by
  unfold mw_isIn
  have e : x.toInt64.toInt = x.toInt := Int32.toInt_toInt64 x
  rw [i_0, lgc_lt, lgc_gt, Int64.lt_iff_toInt_lt, Int64.lt_iff_toInt_lt, e, h0, h1]
  rcases ix_cases x n with ⟨j, e1, e2, e3⟩ | ⟨e1, e2⟩
  · have ht : 0 ≤ x.toInt ∧ x.toInt < n := by
      unfold ix at e1
      split at e1
      · assumption
      · cases e1
    exact ⟨fun z => by omega, fun _ => ⟨fun z => by omega, fun _ => hs j e1 e2 e3⟩⟩
  · exact ⟨fun _ => hn e1, fun z => ⟨fun _ => hn e1, fun z2 => by omega⟩⟩
theorem nIm1_toInt {n : Nat} (h : n < 2 ^ 31) : (nI n - 1).toInt64.toInt = (n : Int) - 1 := by
  rw [Int32.toInt_toInt64]
  cases n with
  | zero => decide
  | succ n => rw [nI_pred, nI_toInt (by omega)]; omega
theorem nb_0 : nb (nI 0) := rfl
theorem nb_1 : nb (nI 1) := rfl
