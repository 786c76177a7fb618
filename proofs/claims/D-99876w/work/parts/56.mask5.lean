/-! THE REFERENCE: what is kept; one is asked; days -/
def mKe (σ : FS) (l : List (Nat × Nat × Nat × Nat)) : Prop := fA σ 52 71 = nI l.length ∧ l.length ≤ 40 ∧ ∀ (k : Nat) r, l[k]? = some r → fA σ 52 (72 + 4 * k) = nI r.1 ∧ fA σ 52 (73 + 4 * k) = nI r.2.1 ∧ fA σ 52 (74 + 4 * k) = nI r.2.2.1 ∧ fA σ 52 (75 + 4 * k) = nI r.2.2.2
theorem ml_kept64 {σ : FS} {l : List (Nat × Nat × Nat × Nat)} {d p t m : Nat} {Q : FS → Prop} (h71 : fA σ 52 71 = nI (l.length + 1)) (hl : l.length < 40) (hr : ∀ (k : Nat) r, l[k]? = some r → fA σ 52 (72 + 4 * k) = nI r.1 ∧ fA σ 52 (73 + 4 * k) = nI r.2.1 ∧ fA σ 52 (74 + 4 * k) = nI r.2.2.1 ∧ fA σ 52 (75 + 4 * k) = nI r.2.2.2) (h0 : fA σ 52 0 = nI d) (h59 : fI σ 0 59 = nI m)
    (hQ : ∀ σ', Fm [] [52] [] σ σ' → mKe σ' (l ++ [(d, p, t, m)]) → (∀ k, k < 71 → fA σ' 52 k = fA σ 52 k) → Q σ') : mw_isKept_64 (nI p) (nI t) σ Q := by
  unfold mw_isKept_64
  have e : ∀ j, (72 : Int32) + 4 * nI (l.length + 1) - 4 + nI j = nI (72 + 4 * l.length + j) := by
    intro j
    simp (disch := omega) only [i_0, i_1, i_2, i_3, i_4, i_5, i_6, i_7, i_8, i_9, i_10, i_11, i_12, i_13, i_16, i_19, i_20, i_21, i_22, i_23, i_24, i_25, i_30, i_31, i_32, i_39, i_40, i_41, i_42, i_43, i_44, i_45, i_47, i_48, i_49, i_50, i_51, i_52, i_57, i_59, i_60, i_61, i_62, i_63, i_64, i_71, i_72, i_80, i_91, i_93, i_97, i_99, i_100, i_122, i_227, i_228, i_232, i_251, i_255, i_256, i_463, i_999, i_1000, i_1519, i_1600, i_9999, i_100000000, i_2147483639, i_2147483647, neg_nI1, nI_add, pk_mul, nI_remL, pk_sub, pk_div, nI_clamp, nI_leI, nI_ltI, nI_eq, vpT, nI_m1, m1_nI, nI_lem1, m1_le, m1_lt, nI_ltm1, nI_bit, nI_shl, nI_xor, nI_or, n_rem]
    congr 1
  have e0 := e 0
  rw [← i_0, Int32.add_zero] at e0
  simp (disch := omega) only [i_0, i_1, i_2, i_3, i_4, i_5, i_6, i_7, i_8, i_9, i_10, i_11, i_12, i_13, i_16, i_19, i_20, i_21, i_22, i_23, i_24, i_25, i_30, i_31, i_32, i_39, i_40, i_41, i_42, i_43, i_44, i_45, i_47, i_48, i_49, i_50, i_51, i_52, i_57, i_59, i_60, i_61, i_62, i_63, i_64, i_71, i_72, i_80, i_91, i_93, i_97, i_99, i_100, i_122, i_227, i_228, i_232, i_251, i_255, i_256, i_463, i_999, i_1000, i_1519, i_1600, i_9999, i_100000000, i_2147483639, i_2147483647, neg_nI1, nI_add, pk_mul, nI_remL, pk_sub, pk_div, nI_clamp, nI_leI, nI_ltI, nI_eq, vpT, nI_m1, m1_nI, nI_lem1, m1_le, m1_lt, nI_ltm1, nI_bit, nI_shl, nI_xor, nI_or, n_rem, forall_eq, true_and, and_true, implies_true, true_implies, false_implies, not_true_eq_false, not_false_eq_true, Nat.zero_add, Nat.add_zero, ite_true, ite_false, if_true, if_false, true_or, or_true, false_or, or_false, and_self, and_false, false_and, Nat.reduceEqDiff, reduceIte]
  rw [h71, h0]
  simp (disch := omega) only [i_0, i_1, i_2, i_3, i_4, i_5, i_6, i_7, i_8, i_9, i_10, i_11, i_12, i_13, i_16, i_19, i_20, i_21, i_22, i_23, i_24, i_25, i_30, i_31, i_32, i_39, i_40, i_41, i_42, i_43, i_44, i_45, i_47, i_48, i_49, i_50, i_51, i_52, i_57, i_59, i_60, i_61, i_62, i_63, i_64, i_71, i_72, i_80, i_91, i_93, i_97, i_99, i_100, i_122, i_227, i_228, i_232, i_251, i_255, i_256, i_463, i_999, i_1000, i_1519, i_1600, i_9999, i_100000000, i_2147483639, i_2147483647, neg_nI1, nI_add, pk_mul, nI_remL, pk_sub, pk_div, nI_clamp, nI_leI, nI_ltI, nI_eq, vpT, nI_m1, m1_nI, nI_lem1, m1_le, m1_lt, nI_ltm1, nI_bit, nI_shl, nI_xor, nI_or, n_rem, forall_eq, true_and, and_true, implies_true, true_implies, false_implies, not_true_eq_false, not_false_eq_true, Nat.zero_add, Nat.add_zero, ite_true, ite_false, if_true, if_false, true_or, or_true, false_or, or_false, and_self, and_false, false_and, Nat.reduceEqDiff, reduceIte, fI_sI, fI_sL, fI_sA, fI_sB, fL_sI, fL_sL, fL_sA, fL_sB, fA_sI, fA_sL, fA_sA, fA_sB, fB_sI, fB_sL, fB_sA, fB_sB, h59]
  have f1 : 72 + 4 * (l.length + 1) - 4 = 72 + 4 * l.length := by omega
  rw [f1]
  refine hQ _ ((Fm.sA σ _ _ (by decide)).trans ((Fm.sA _ _ _ (by decide)).trans ((Fm.sA _ _ _ (by decide)).trans (Fm.sA _ _ _ (by decide))))) ⟨?_, ?_, ?_⟩ ?_
  · rw [fA_sA, if_neg (by omega), fA_sA, if_neg (by omega), fA_sA, if_neg (by omega), fA_sA, if_neg (by omega), h71]; simp
  · simp; omega
  · intro k r hk
    rcases Nat.lt_or_ge k l.length with z | z
    · rw [List.getElem?_append_left z] at hk
      obtain ⟨w1, w2, w3, w4⟩ := hr k r hk
      refine ⟨?_, ?_, ?_, ?_⟩ <;> rw [fA_sA, if_neg (by omega), fA_sA, if_neg (by omega), fA_sA, if_neg (by omega), fA_sA, if_neg (by omega)] <;> assumption
    · rw [List.getElem?_append_right z] at hk
      have hz : k = l.length := by
        have := (List.getElem?_eq_some_iff.mp hk).1
        simp at this; omega
      subst hz
      simp at hk
      subst hk
      refine ⟨?_, ?_, ?_, ?_⟩
      · rw [fA_sA, if_neg (by omega), fA_sA, if_neg (by omega), fA_sA, if_neg (by omega), fA_sA, if_pos (by omega)]
      · rw [fA_sA, if_neg (by omega), fA_sA, if_neg (by omega), fA_sA, if_pos (by omega)]
      · rw [fA_sA, if_neg (by omega), fA_sA, if_pos (by omega)]
      · rw [fA_sA, if_pos (by omega)]
  · intro k hk
    rw [fA_sA, if_neg (by omega), fA_sA, if_neg (by omega), fA_sA, if_neg (by omega), fA_sA, if_neg (by omega)]
theorem ml_isKept {σ : FS} {l : List (Nat × Nat × Nat × Nat)} {d p t m : Nat} {Q : FS → Prop} (h57 : fI σ 0 57 = nI 0) (hk : mKe σ l) (h0 : fA σ 52 0 = nI d) (h59 : fI σ 0 59 = nI m)
    (hQ : ∀ σ', Fm [] [52] [] σ σ' → mKe σ' (keep l (d, p, t, m)) → (∀ k, k < 71 → fA σ' 52 k = fA σ 52 k) → Q σ') : mw_isKept (nI p) (nI t) σ Q := by
  obtain ⟨h71, hl, hr⟩ := hk
  unfold mw_isKept
  rw [h57]
  simp (disch := omega) only [i_0, i_1, i_2, i_3, i_4, i_5, i_6, i_7, i_8, i_9, i_10, i_11, i_12, i_13, i_16, i_19, i_20, i_21, i_22, i_23, i_24, i_25, i_30, i_31, i_32, i_39, i_40, i_41, i_42, i_43, i_44, i_45, i_47, i_48, i_49, i_50, i_51, i_52, i_57, i_59, i_60, i_61, i_62, i_63, i_64, i_71, i_72, i_80, i_91, i_93, i_97, i_99, i_100, i_122, i_227, i_228, i_232, i_251, i_255, i_256, i_463, i_999, i_1000, i_1519, i_1600, i_9999, i_100000000, i_2147483639, i_2147483647, neg_nI1, nI_add, pk_mul, nI_remL, pk_sub, pk_div, nI_clamp, nI_leI, nI_ltI, nI_eq, vpT, nI_m1, m1_nI, nI_lem1, m1_le, m1_lt, nI_ltm1, nI_bit, nI_shl, nI_xor, nI_or, n_rem, forall_eq, true_and, and_true, implies_true, true_implies, false_implies, not_true_eq_false, not_false_eq_true, Nat.zero_add, Nat.add_zero, ite_true, ite_false, if_true, if_false, true_or, or_true, false_or, or_false, and_self, and_false, false_and, Nat.reduceEqDiff, reduceIte]
  rw [h71]
  simp (disch := omega) only [i_0, i_1, i_2, i_3, i_4, i_5, i_6, i_7, i_8, i_9, i_10, i_11, i_12, i_13, i_16, i_19, i_20, i_21, i_22, i_23, i_24, i_25, i_30, i_31, i_32, i_39, i_40, i_41, i_42, i_43, i_44, i_45, i_47, i_48, i_49, i_50, i_51, i_52, i_57, i_59, i_60, i_61, i_62, i_63, i_64, i_71, i_72, i_80, i_91, i_93, i_97, i_99, i_100, i_122, i_227, i_228, i_232, i_251, i_255, i_256, i_463, i_999, i_1000, i_1519, i_1600, i_9999, i_100000000, i_2147483639, i_2147483647, neg_nI1, nI_add, pk_mul, nI_remL, pk_sub, pk_div, nI_clamp, nI_leI, nI_ltI, nI_eq, vpT, nI_m1, m1_nI, nI_lem1, m1_le, m1_lt, nI_ltm1, nI_bit, nI_shl, nI_xor, nI_or, n_rem, forall_eq, true_and, and_true, implies_true, true_implies, false_implies, not_true_eq_false, not_false_eq_true, Nat.zero_add, Nat.add_zero, ite_true, ite_false, if_true, if_false, true_or, or_true, false_or, or_false, and_self, and_false, false_and, Nat.reduceEqDiff, reduceIte]
  unfold keep at hQ
  refine ⟨fun c => ?_, fun c => ?_⟩
  · rw [if_neg c] at hQ
    refine ml_kept64 (l := l) ?_ (by omega) ?_ ?_ ?_ (fun σ' hF hk hs => hQ σ' ((Fm.sA σ _ _ (by decide)).trans hF) hk (fun k hk => ?_))
    · rw [fA_sA, if_pos ⟨rfl, rfl⟩]
    · intro k r hk
      have := (List.getElem?_eq_some_iff.mp hk).1
      obtain ⟨w1, w2, w3, w4⟩ := hr k r hk
      refine ⟨?_, ?_, ?_, ?_⟩ <;> rw [fA_sA, if_neg (by omega)] <;> assumption
    · rw [fA_sA, if_neg (by omega)]; exact h0
    · exact h59
    · rw [hs k hk, fA_sA, if_neg (by omega)]
  · rw [if_pos c] at hQ
    unfold mw_isKept_23
    intro X hX
    have key : ∀ j k (σ1 : FS), 228 - k = j → 72 ≤ k → k ≤ 228 → Fm [] [52] [] σ σ1 → (∀ i, 72 ≤ i → i < k → fA σ1 52 i = fA σ 52 (i + 4)) → (∀ i, (i < 72 ∨ k ≤ i) → fA σ1 52 i = fA σ 52 i) → X (nI p) (nI t) (nI k) σ1 := by
      intro j
      induction j with
      | zero =>
        intro k σ1 hj h1 h2 hF a1 a2
        refine hX _ _ _ _ ?_
        rw [i_228]
        refine ⟨fun _ => ?_, fun z => absurd ((nI_leI (by omega) (by omega)).mpr (by omega)) z⟩
        have hk : k = 228 := by omega
        subst hk
        refine ml_kept64 (l := l.drop 1) (d := d) (m := m) ?_ ?_ ?_ ?_ ?_ (fun σ' hF2 hk hs => hQ σ' (hF.trans hF2) hk (fun k hk => ?_))
        · rw [a2 71 (by omega), h71, List.length_drop]; congr 1; omega
        · rw [List.length_drop]; omega
        · intro k r hk
          rw [List.getElem?_drop] at hk
          have := (List.getElem?_eq_some_iff.mp hk).1
          obtain ⟨w1, w2, w3, w4⟩ := hr (1 + k) r hk
          rw [a1 (72 + 4 * k) (by omega) (by omega), a1 (73 + 4 * k) (by omega) (by omega), a1 (74 + 4 * k) (by omega) (by omega), a1 (75 + 4 * k) (by omega) (by omega)]
          rw [show 72 + 4 * k + 4 = 72 + 4 * (1 + k) by omega, show 73 + 4 * k + 4 = 73 + 4 * (1 + k) by omega, show 74 + 4 * k + 4 = 74 + 4 * (1 + k) by omega, show 75 + 4 * k + 4 = 75 + 4 * (1 + k) by omega]
          exact ⟨w1, w2, w3, w4⟩
        · rw [a2 0 (by omega)]; exact h0
        · rw [hF.1 59 (by decide)]; exact h59
        · rw [hs k hk, a2 k (by omega)]
      | succ j ih =>
        intro k σ1 hj h1 h2 hF a1 a2
        refine hX _ _ _ _ ?_
        rw [i_228]
        refine ⟨fun z => absurd ((nI_leI (by omega) (by omega)).mp z) (by omega), fun _ => ?_⟩
        simp (disch := omega) only [i_0, i_1, i_2, i_3, i_4, i_5, i_6, i_7, i_8, i_9, i_10, i_11, i_12, i_13, i_16, i_19, i_20, i_21, i_22, i_23, i_24, i_25, i_30, i_31, i_32, i_39, i_40, i_41, i_42, i_43, i_44, i_45, i_47, i_48, i_49, i_50, i_51, i_52, i_57, i_59, i_60, i_61, i_62, i_63, i_64, i_71, i_72, i_80, i_91, i_93, i_97, i_99, i_100, i_122, i_227, i_228, i_232, i_251, i_255, i_256, i_463, i_999, i_1000, i_1519, i_1600, i_9999, i_100000000, i_2147483639, i_2147483647, neg_nI1, nI_add, pk_mul, nI_remL, pk_sub, pk_div, nI_clamp, nI_leI, nI_ltI, nI_eq, vpT, nI_m1, m1_nI, nI_lem1, m1_le, m1_lt, nI_ltm1, nI_bit, nI_shl, nI_xor, nI_or, n_rem, forall_eq, true_and, and_true, implies_true, true_implies, false_implies, not_true_eq_false, not_false_eq_true, Nat.zero_add, Nat.add_zero, ite_true, ite_false, if_true, if_false, true_or, or_true, false_or, or_false, and_self, and_false, false_and, Nat.reduceEqDiff, reduceIte]
        refine ih (k + 1) _ (by omega) (by omega) (by omega) (hF.trans (Fm.sA σ1 _ _ (by decide))) ?_ ?_
        · intro i hi1 hi2
          by_cases z : i = k
          · subst z; rw [fA_sA, if_pos ⟨rfl, rfl⟩, a2 _ (by omega)]
          · rw [fA_sA, if_neg (by omega)]; exact a1 i hi1 (by omega)
        · intro i hi
          rw [fA_sA, if_neg (by omega)]; exact a2 i (by omega)
    exact key _ 72 σ rfl (by omega) (by omega) (Fm.refl _ _ _ _) (fun i h1 h2 => by omega) (fun i _ => rfl)
theorem exl_iff {own d : Nat} (hd : d % 8 < 7) (ho : own % 8 < 7) : exl own d ↔ (d / 8 = own / 8 ∧ (d % 8 = own % 8 ∨ d % 8 + 1 = own % 8 ∨ d % 8 = own % 8 + 1)) := by
  unfold exl
  constructor
  · rintro ⟨h1, h2, h3⟩; refine ⟨h1, ?_⟩; omega
  · rintro ⟨h1, h2⟩; refine ⟨h1, ?_, ?_⟩ <;> omega
theorem c7_eqM {own d : Nat} (hd : d % 8 < 7) (ho : own % 8 < 7) (h0 : 0 < own % 8) : c7 d = c7 own - 1 ↔ (d / 8 = own / 8 ∧ d % 8 + 1 = own % 8) := by
  unfold c7
  constructor
  · intro h; omega
  · rintro ⟨h1, h2⟩; omega
theorem c7_eqE {own d : Nat} (hd : d % 8 < 7) (ho : own % 8 < 7) : c7 d = c7 own ↔ (d / 8 = own / 8 ∧ d % 8 = own % 8) := by
  unfold c7
  constructor
  · intro h; omega
  · rintro ⟨h1, h2⟩; omega
theorem c7_eqP {own d : Nat} (hd : d % 8 < 7) (ho : own % 8 + 1 < 7) : c7 d = c7 own + 1 ↔ (d / 8 = own / 8 ∧ d % 8 = own % 8 + 1) := by
  unfold c7
  constructor
  · intro h; omega
  · rintro ⟨h1, h2⟩; omega
theorem exl_l {P : Pl} (hP : plOK P) {own : Nat} (ho : isC P own) (x3 : Int32) (h0 : 0 < own % 8) (h3 : x3 = if own % 8 + 1 < plC P then nI (c7 own + 1) else M1) : ∀ d, isC P d → ((nI (c7 d) = nI (c7 (own - 1)) ∨ nI (c7 d) = nI (c7 own) ∨ nI (c7 d) = x3) ↔ exl own d) := by
  intro d hd
  have h1 := isC_lt hP ho; have h2 := isC_lt hP hd; have h4 := c7_lt hP hd; have h5 := c7_lt hP ho
  have hC := hP.1
  have e1 : c7 (own - 1) = c7 own - 1 := by unfold c7; omega
  have hd1 := hd.1
  rw [e1, nI_eq (by omega) (by omega), nI_eq (by omega) (by omega), exl_iff h2.1 h1.1, c7_eqM h2.1 h1.1 h0, c7_eqE h2.1 h1.1]
  by_cases z : own % 8 + 1 < plC P
  · rw [h3, if_pos z, nI_eq (by omega) (by omega), c7_eqP h2.1 (by omega)]
    omega
  · rw [h3, if_neg z, nI_m1 (by omega), or_false]
    omega
theorem exl_r {P : Pl} (hP : plOK P) {own : Nat} (ho : isC P own) (x3 : Int32) (h0 : own % 8 + 1 < plC P) (h3 : x3 = if 0 < own % 8 then nI (c7 own - 1) else M1) : ∀ d, isC P d → ((nI (c7 d) = nI (c7 (own + 1)) ∨ nI (c7 d) = nI (c7 own) ∨ nI (c7 d) = x3) ↔ exl own d) := by
  intro d hd
  have h1 := isC_lt hP ho; have h2 := isC_lt hP hd; have h4 := c7_lt hP hd; have h5 := c7_lt hP ho
  have hC := hP.1
  have e1 : c7 (own + 1) = c7 own + 1 := by unfold c7; omega
  have hd1 := hd.1
  rw [e1, nI_eq (by omega) (by omega), nI_eq (by omega) (by omega), exl_iff h2.1 h1.1, c7_eqP h2.1 (by omega), c7_eqE h2.1 h1.1]
  by_cases z : 0 < own % 8
  · rw [h3, if_pos z, nI_eq (by omega) (by omega), c7_eqM h2.1 h1.1 z]
    omega
  · rw [h3, if_neg z, nI_m1 (by omega), or_false]
    omega
theorem zWo_lt (P : Pl) (sil : Nat) (s : St) (p t : Nat) : zWo P sil s p t < 3 := by
  unfold zWo
  split
  · omega
  · split
    · omega
    · split <;> omega
theorem zLf_le {P : Pl} {own side : Nat} : ∀ (n : Nat) (h : Nat → Nat), (∀ c, isC P c → h c ≤ 99) → (zLf P own side n h).1 ≤ n ∧ ∀ c, isC P c → (zLf P own side n h).2 c ≤ 99
  | 0, h, hh => ⟨Nat.le_refl _, hh⟩
  | n + 1, h, hh => by
    unfold zLf
    split
    · exact ⟨by simp, hh⟩
    · rename_i f hf
      split
      · exact ⟨by simp, hh⟩
      · rename_i hz
        obtain ⟨h1, h2⟩ := zLf_le (P := P) (own := own) (side := side) n (up (up h f (h f - 1)) side (h side + 1)) (fun c hc => by
          have := hh c hc
          unfold up
          split
          · rename_i z; subst z; omega
          · split
            · rename_i z; subst z; omega
            · omega)
        exact ⟨by simp; exact h1, h2⟩
theorem zTm_le (P : Pl) (s : St) (p t sd : Nat) : zTm P s p t sd ≤ 9 := by unfold zTm; split <;> first | omega | exact cut9_le _
theorem zLl_le {P : Pl} {s : St} (hs : stOK P s) (p t : Nat) : (zLl P s p t).1 ≤ 9 ∧ ∀ c, isC P c → (zLl P s p t).2 c ≤ 99 := by
  unfold zLl
  split
  · obtain ⟨h1, h2⟩ := zLf_le (P := P) (own := zA s p) (side := zA s p - 1) (zTm P s p t (zH s (zA s p - 1))) (zH s) hs.2.1
    exact ⟨Nat.le_trans h1 (zTm_le _ _ _ _ _), h2⟩
  · exact ⟨by simp, hs.2.1⟩
theorem zLr_le {P : Pl} {s : St} (hs : stOK P s) (p t : Nat) : (zLr P s p t).1 ≤ 9 ∧ ∀ c, isC P c → (zLr P s p t).2 c ≤ 99 := by
  unfold zLr
  split
  · obtain ⟨h1, h2⟩ := zLf_le (P := P) (own := zA s p) (side := zA s p + 1) (zTm P s p t (zH s (zA s p + 1))) (zH s) hs.2.1
    exact ⟨Nat.le_trans h1 (zTm_le _ _ _ _ _), h2⟩
  · exact ⟨by simp, hs.2.1⟩
theorem zS1_ok {P : Pl} {s : St} (hs : stOK P s) (p t : Nat) : stOK P (zS1 P s p t) := hs.setH (zLl_le hs p t).2
theorem zS2_ok {P : Pl} {s : St} (hs : stOK P s) (p t : Nat) : stOK P (zS2 P s p t) := hs.setH (zLr_le (zS1_ok hs p t) p t).2
theorem zTi_le (P : Pl) (s : St) (p t : Nat) : zTi P s p t ≤ 9 := by unfold zTi; split <;> first | exact Nat.min_le_left _ _ | exact cut9_le _
theorem keep_len {l : List (Nat × Nat × Nat × Nat)} (h : l.length ≤ 40) (r : Nat × Nat × Nat × Nat) : (keep l r).length ≤ 40 := by
  unfold keep
  split <;> simp <;> omega
theorem zSh_ok {P : Pl} {s : St} (hs : stOK P s) (p t : Nat) : stOK P (zSh P s p t) := by
  refine ⟨hs.1, (zS2_ok hs p t).2.1, fun q hq => ⟨(hs.2.2.1 q hq).1, ?_, (hs.2.2.1 q hq).2.2⟩, keep_len hs.2.2.2 _⟩
  show up (zT s) p _ q ≤ 9
  unfold up
  split
  · exact zTi_le _ _ _ _
  · exact (hs.2.2.1 q hq).2.1
theorem zAs_ok {P : Pl} {s : St} (hs : stOK P s) (sil p t : Nat) : stOK P (zAs P sil s p t) := by
  unfold zAs
  split
  · exact zSh_ok hs p t
  · exact hs
/-- what an asking may change: fields, arrays, piles -/
abbrev kAs : List Nat := [51, 54, 55, 56, 58, 59, 109]
/-- the land as it is, and what is kept if it isn't only thought -/
def mNK (th : Nat) (σ σ' : FS) (P : Pl) (s s' : St) : Prop := mN σ' P s' ∧ (th = 0 → mKe σ (zE s) → mKe σ' (zE s')) ∧ (th ≠ 0 → ∀ k, 71 ≤ k → fA σ' 52 k = fA σ 52 k)
theorem mNK.trans {th : Nat} {σ σ1 σ2 : FS} {P : Pl} {s s1 s2 : St} (h : mNK th σ σ1 P s s1) (g : mNK th σ1 σ2 P s1 s2) : mNK th σ σ2 P s s2 := ⟨g.1, fun z q => g.2.1 z (h.2.1 z q), fun z k hk => (g.2.2 z k hk).trans (h.2.2 z k hk)⟩
theorem ml_isAsked {σ : FS} {P : Pl} {s : St} {p t th sil : Nat} {Q : Int32 → FS → Prop} (hP : mP σ P) (hN : mN σ P s) (hS : mSd σ) (hp : p < nP P) (ht : t < nT P) (h57 : fI σ 0 57 = nI th) (hth : th < 2) (h60 : fI σ 0 60 = nI sil) (hsil : sil < 128) (hK : th = 0 → mKe σ (zE s))
    (hQ : ∀ σ', Fm kAs [52] [108] σ σ' → mNK th σ σ' P s (zAs P sil s p t) → mSd σ' → fI σ' 0 59 = nI (zAm P sil s p t) → fI σ' 0 58 = fI σ 0 58 + nI (if zWo P sil s p t = 2 then 1 else 0) → Q (nI (zWo P sil s p t)) σ') : mw_isAsked (nI p) (nI t) σ Q := by
  have h7 := hP.1.2.2.2.2.1
  have h5 := hP.1.2.2.2.1
  have hC := hP.1.1
  obtain ⟨hcell, hti, hkn⟩ := hN.1.2.2.1 p hp
  have hcl := isC_lt hP.1 hcell
  have hc7 := c7_lt hP.1 hcell
  have hcm := c7_mod hcl.1
  unfold mw_isAsked
  have h2 : sil / 2 ^ p % 2 < 2 := Nat.mod_lt _ (by decide)
  simp (disch := omega) only [i_0, i_1, i_2, i_3, i_4, i_5, i_6, i_7, i_8, i_9, i_10, i_11, i_12, i_13, i_16, i_19, i_20, i_21, i_22, i_23, i_24, i_25, i_30, i_31, i_32, i_39, i_40, i_41, i_42, i_43, i_44, i_45, i_47, i_48, i_49, i_50, i_51, i_52, i_57, i_59, i_60, i_61, i_62, i_63, i_64, i_71, i_72, i_80, i_91, i_93, i_97, i_99, i_100, i_122, i_227, i_228, i_232, i_251, i_255, i_256, i_463, i_999, i_1000, i_1519, i_1600, i_9999, i_100000000, i_2147483639, i_2147483647, neg_nI1, nI_add, pk_mul, nI_remL, pk_sub, pk_div, nI_clamp, nI_leI, nI_ltI, nI_eq, vpT, nI_m1, m1_nI, nI_lem1, m1_le, m1_lt, nI_ltm1, nI_bit, nI_shl, nI_xor, nI_or, n_rem, forall_eq, true_and, and_true, implies_true, true_implies, false_implies, not_true_eq_false, not_false_eq_true, Nat.zero_add, Nat.add_zero, ite_true, ite_false, if_true, if_false, true_or, or_true, false_or, or_false, and_self, and_false, false_and, Nat.reduceEqDiff, reduceIte, fI_sI, fI_sL, fI_sA, fI_sB, fL_sI, fL_sL, fL_sA, fL_sB, fA_sI, fA_sL, fA_sA, fA_sB, fB_sI, fB_sL, fB_sA, fB_sB]
  rw [h60]
  simp (disch := omega) only [i_0, i_1, i_2, i_3, i_4, i_5, i_6, i_7, i_8, i_9, i_10, i_11, i_12, i_13, i_16, i_19, i_20, i_21, i_22, i_23, i_24, i_25, i_30, i_31, i_32, i_39, i_40, i_41, i_42, i_43, i_44, i_45, i_47, i_48, i_49, i_50, i_51, i_52, i_57, i_59, i_60, i_61, i_62, i_63, i_64, i_71, i_72, i_80, i_91, i_93, i_97, i_99, i_100, i_122, i_227, i_228, i_232, i_251, i_255, i_256, i_463, i_999, i_1000, i_1519, i_1600, i_9999, i_100000000, i_2147483639, i_2147483647, neg_nI1, nI_add, pk_mul, nI_remL, pk_sub, pk_div, nI_clamp, nI_leI, nI_ltI, nI_eq, vpT, nI_m1, m1_nI, nI_lem1, m1_le, m1_lt, nI_ltm1, nI_bit, nI_shl, nI_xor, nI_or, n_rem, forall_eq, true_and, and_true, implies_true, true_implies, false_implies, not_true_eq_false, not_false_eq_true, Nat.zero_add, Nat.add_zero, ite_true, ite_false, if_true, if_false, true_or, or_true, false_or, or_false, and_self, and_false, false_and, Nat.reduceEqDiff, reduceIte]
  have hF0 : Fm kAs [52] [108] σ (sI σ 0 59 (nI 0)) := Fm.sI σ _ (by decide)
  refine ⟨fun c => ?_, fun c => ?_⟩
  · have hw : zWo P sil s p t = zWo P 0 s p t := by
      unfold zWo
      have e0 : ¬ 0 / 2 ^ p % 2 = 1 := by simp
      simp only [c, e0]
    refine ml_would (hP.fm hF0 (by decide) (by decide) (by decide)) (hN.eqv rfl) (by obtain ⟨sd, q1, q2⟩ := hS; exact ⟨sd, q1, by rw [fI_sI]; simpa using q2⟩) hp ht (fun σ1 hF1 hA => ?_)
    have hF1' : Fm kAs [52] [108] (sI σ 0 59 (nI 0)) σ1 := hF1.wide (by decide) (by decide) (by decide)
    have hF := hF0.trans hF1'
    have e52 : fA σ1 52 = fA σ 52 := hF1.2.1 52 (by decide)
    have h59 : fI σ1 0 59 = nI 0 := by rw [hF1.1 59 (by decide), fI_sI]; simp
    have h58 : fI σ1 0 58 = fI σ 0 58 := by rw [hF1.1 58 (by decide), fI_sI]; simp
    have h571 : fI σ1 0 57 = nI th := by rw [hF.1 57 (by decide)]; exact h57
    have hS1 : mSd σ1 := by
      obtain ⟨sd, q1, q2⟩ := hS
      exact ⟨sd, q1, by rw [hF1.1 56 (by decide), fI_sI]; simpa using q2⟩
    have hP1 := hP.fm hF (by decide) (by decide) (by decide)
    have hN1 : mN σ1 P s := hN.eqv e52
    have hw3 : zWo P 0 s p t < 3 := zWo_lt _ _ _ _ _
    rw [← hw] at hw3 hA ⊢
    simp (disch := omega) only [i_0, i_1, i_2, i_3, i_4, i_5, i_6, i_7, i_8, i_9, i_10, i_11, i_12, i_13, i_16, i_19, i_20, i_21, i_22, i_23, i_24, i_25, i_30, i_31, i_32, i_39, i_40, i_41, i_42, i_43, i_44, i_45, i_47, i_48, i_49, i_50, i_51, i_52, i_57, i_59, i_60, i_61, i_62, i_63, i_64, i_71, i_72, i_80, i_91, i_93, i_97, i_99, i_100, i_122, i_227, i_228, i_232, i_251, i_255, i_256, i_463, i_999, i_1000, i_1519, i_1600, i_9999, i_100000000, i_2147483639, i_2147483647, neg_nI1, nI_add, pk_mul, nI_remL, pk_sub, pk_div, nI_clamp, nI_leI, nI_ltI, nI_eq, vpT, nI_m1, m1_nI, nI_lem1, m1_le, m1_lt, nI_ltm1, nI_bit, nI_shl, nI_xor, nI_or, n_rem, forall_eq, true_and, and_true, implies_true, true_implies, false_implies, not_true_eq_false, not_false_eq_true, Nat.zero_add, Nat.add_zero, ite_true, ite_false, if_true, if_false, true_or, or_true, false_or, or_false, and_self, and_false, false_and, Nat.reduceEqDiff, reduceIte]
    refine ⟨fun c2 => ?_, fun c2 => ?_⟩
    · have hw2 : zWo P sil s p t = 2 := by omega
      obtain ⟨h54, h55⟩ := hA (by omega)
      have fin : ∀ σ2, Fm kAs [52] [108] σ σ2 → mN σ2 P (zS2 P s p t) → fI σ2 0 59 = nI (zMu P s p t) → fI σ2 0 58 = fI σ 0 58 → mSd σ2 → (∀ k, 50 ≤ k → fA σ2 52 k = fA σ 52 k) → fI σ2 0 54 = nI p → fI σ2 0 55 = nI t → mw_isAsked_116 (nI p) (nI t) (nI 2) σ2 Q := by
        intro σ2 hF2 hN2 h592 h582 hS2 ho g54 g55
        have hP2 := hP.fm hF2 (by decide) (by decide) (by decide)
        have hcd := hP2.2.2.2.2.2.1.2.1
        have hok := hP.1.2.2.2.2.2.2.2.2.1
        have hti2 : zT s p ≤ 9 := hti
        have last : ∀ σ3, Fm kAs [52] [108] σ2 σ3 → fA σ3 52 = fA σ2 52 → fI σ3 0 59 = fI σ2 0 59 → fI σ3 0 58 = fI σ2 0 58 → mSd σ3 → mw_isAsked_158 (nI p) (nI t) (nI 2) (nI (zTi P (zS2 P s p t) p t)) (nI (51 + 3 * p)) σ3 Q := by
          intro σ3 hF3 e3 e59 e58 hS3
          unfold mw_isAsked_158
          simp (disch := omega) only [i_0, i_1, i_2, i_3, i_4, i_5, i_6, i_7, i_8, i_9, i_10, i_11, i_12, i_13, i_16, i_19, i_20, i_21, i_22, i_23, i_24, i_25, i_30, i_31, i_32, i_39, i_40, i_41, i_42, i_43, i_44, i_45, i_47, i_48, i_49, i_50, i_51, i_52, i_57, i_59, i_60, i_61, i_62, i_63, i_64, i_71, i_72, i_80, i_91, i_93, i_97, i_99, i_100, i_122, i_227, i_228, i_232, i_251, i_255, i_256, i_463, i_999, i_1000, i_1519, i_1600, i_9999, i_100000000, i_2147483639, i_2147483647, neg_nI1, nI_add, pk_mul, nI_remL, pk_sub, pk_div, nI_clamp, nI_leI, nI_ltI, nI_eq, vpT, nI_m1, m1_nI, nI_lem1, m1_le, m1_lt, nI_ltm1, nI_bit, nI_shl, nI_xor, nI_or, n_rem, forall_eq, true_and, and_true, implies_true, true_implies, false_implies, not_true_eq_false, not_false_eq_true, Nat.zero_add, Nat.add_zero, ite_true, ite_false, if_true, if_false, true_or, or_true, false_or, or_false, and_self, and_false, false_and, Nat.reduceEqDiff, reduceIte]
          have hF4 : Fm kAs [52] [108] σ3 (sI (sA σ3 52 (51 + 3 * p) (nI (zTi P (zS2 P s p t) p t))) 0 58 (fI (sA σ3 52 (51 + 3 * p) (nI (zTi P (zS2 P s p t) p t))) 0 58 + nI 1)) := (Fm.sA σ3 _ _ (by decide)).trans (Fm.sI _ _ (by decide))
          have k57 : fI (sI (sA σ3 52 (51 + 3 * p) (nI (zTi P (zS2 P s p t) p t))) 0 58 (fI (sA σ3 52 (51 + 3 * p) (nI (zTi P (zS2 P s p t) p t))) 0 58 + nI 1)) 0 57 = nI th := by rw [hF4.1 57 (by decide), hF3.1 57 (by decide), hF2.1 57 (by decide)]; exact h57
          have k59 : fI (sI (sA σ3 52 (51 + 3 * p) (nI (zTi P (zS2 P s p t) p t))) 0 58 (fI (sA σ3 52 (51 + 3 * p) (nI (zTi P (zS2 P s p t) p t))) 0 58 + nI 1)) 0 59 = nI (zMu P s p t) := by rw [fI_sI]; simp only [Nat.reduceEqDiff, and_false, if_false]; show fI σ3 0 59 = _; rw [e59]; exact h592
          have k58 : fI (sI (sA σ3 52 (51 + 3 * p) (nI (zTi P (zS2 P s p t) p t))) 0 58 (fI (sA σ3 52 (51 + 3 * p) (nI (zTi P (zS2 P s p t) p t))) 0 58 + nI 1)) 0 58 = fI σ 0 58 + nI 1 := by rw [fI_sI, if_pos ⟨rfl, rfl⟩]; show fI σ3 0 58 + nI 1 = _; rw [e58, h582]
          have hS5 : mSd (sI (sA σ3 52 (51 + 3 * p) (nI (zTi P (zS2 P s p t) p t))) 0 58 (fI (sA σ3 52 (51 + 3 * p) (nI (zTi P (zS2 P s p t) p t))) 0 58 + nI 1)) := by
            obtain ⟨sd, q1, q2⟩ := hS3
            exact ⟨sd, q1, by rw [fI_sI, fI_sA]; simpa using q2⟩
          have hA4 : ∀ k, fA (sI (sA σ3 52 (51 + 3 * p) (nI (zTi P (zS2 P s p t) p t))) 0 58 (fI (sA σ3 52 (51 + 3 * p) (nI (zTi P (zS2 P s p t) p t))) 0 58 + nI 1)) 52 k = if k = 51 + 3 * p then nI (zTi P (zS2 P s p t) p t) else fA σ2 52 k := by
            intro k
            rw [fA_sI, fA_sA, e3]
            by_cases z : k = 51 + 3 * p
            · rw [if_pos ⟨rfl, z⟩, if_pos z]
            · rw [if_neg (fun q => z q.2), if_neg z]
          generalize sI (sA σ3 52 (51 + 3 * p) (nI (zTi P (zS2 P s p t) p t))) 0 58 (fI (sA σ3 52 (51 + 3 * p) (nI (zTi P (zS2 P s p t) p t))) 0 58 + nI 1) = σ4 at hF4 k57 k59 k58 hS5 hA4 ⊢
          have hN4 : ∀ σ5, (∀ k, k < 71 → fA σ5 52 k = fA σ4 52 k) → mN σ5 P (zAs P sil s p t) := by
            intro σ5 h5e
            refine ⟨zAs_ok hN.1 sil p t, ?_, ?_, ?_⟩
            · rw [h5e 0 (by omega), hA4, if_neg (by omega), hN2.2.1]
              unfold zAs; rw [if_pos hw2]; rfl
            · intro d hd
              have hd7 := c7_lt hP.1 hd
              rw [h5e _ (by omega), hA4, if_neg (by omega), hN2.2.2.1 d hd]
              unfold zAs; rw [if_pos hw2]; rfl
            · intro q hq
              obtain ⟨w1, w2, w3⟩ := hN2.2.2.2 q hq
              rw [h5e _ (by omega), h5e _ (by omega), h5e _ (by omega), hA4, hA4, hA4, if_neg (by omega), if_neg (show ¬ 52 + 3 * q = 51 + 3 * p by omega), w1, w3]
              unfold zAs; rw [if_pos hw2]
              refine ⟨rfl, ?_, rfl⟩
              show _ = nI (up (zT s) p _ q)
              unfold up
              by_cases z : q = p
              · subst z; rw [if_pos rfl, if_pos rfl]
              · rw [if_neg (by omega), if_neg z, w2]; rfl
          have h9 : ∀ σ5, Fm [] [52] [] σ4 σ5 → (∀ k, k < 71 → fA σ5 52 k = fA σ4 52 k) → (th = 0 → mKe σ (zE s) → mKe σ5 (zE (zAs P sil s p t))) → (th ≠ 0 → ∀ k, 71 ≤ k → fA σ5 52 k = fA σ 52 k) → Q (nI 2) σ5 := by
            intro σ5 hF5 h5e hk1 hk2
            have h10 := hQ σ5 (hF2.trans (hF3.trans (hF4.trans (hF5.wide (by decide) (by decide) (by decide))))) ⟨hN4 σ5 h5e, hk1, hk2⟩ (by obtain ⟨sd, q1, q2⟩ := hS5; exact ⟨sd, q1, by rw [hF5.1 56 (by decide)]; exact q2⟩) (by unfold zAm; rw [if_pos hw2, hF5.1 59 (by decide)]; exact k59) (by rw [if_pos hw2, hF5.1 58 (by decide)]; exact k58)
            rw [hw2] at h10
            exact h10
          by_cases hz : th = 0
          · subst hz
            have hKe4 : mKe σ4 (zE s) := by
              obtain ⟨u1, u2, u3⟩ := hK rfl
              refine ⟨by rw [hA4, if_neg (by omega), ho 71 (by omega)]; exact u1, u2, fun k r hk => ?_⟩
              rw [hA4, hA4, hA4, hA4, if_neg (by omega), if_neg (by omega), if_neg (by omega), if_neg (by omega), ho _ (by omega), ho _ (by omega), ho _ (by omega), ho _ (by omega)]
              exact u3 k r hk
            refine ml_isKept (l := zE s) (d := zD s) (m := zMu P s p t) k57 hKe4 (by rw [hA4, if_neg (by omega), hN2.2.1]; rfl) k59 (fun σ5 hF5 hk5 h5e => h9 σ5 hF5 h5e (fun _ _ => by unfold zAs; rw [if_pos hw2]; exact hk5) (fun z => absurd rfl z))
          · unfold mw_isKept
            refine ⟨fun z => ?_, fun _ => h9 σ4 (Fm.refl _ _ _ _) (fun _ _ => rfl) (fun z => absurd z hz) (fun _ k hk => ?_)⟩
            · rw [k57, i_0, nI_eq (by omega) (by omega)] at z; exact absurd z hz
            · rw [hA4, if_neg (by omega), ho k (by omega)]
        unfold mw_isAsked_116
        simp (disch := omega) only [i_0, i_1, i_2, i_3, i_4, i_5, i_6, i_7, i_8, i_9, i_10, i_11, i_12, i_13, i_16, i_19, i_20, i_21, i_22, i_23, i_24, i_25, i_30, i_31, i_32, i_39, i_40, i_41, i_42, i_43, i_44, i_45, i_47, i_48, i_49, i_50, i_51, i_52, i_57, i_59, i_60, i_61, i_62, i_63, i_64, i_71, i_72, i_80, i_91, i_93, i_97, i_99, i_100, i_122, i_227, i_228, i_232, i_251, i_255, i_256, i_463, i_999, i_1000, i_1519, i_1600, i_9999, i_100000000, i_2147483639, i_2147483647, neg_nI1, nI_add, pk_mul, nI_remL, pk_sub, pk_div, nI_clamp, nI_leI, nI_ltI, nI_eq, vpT, nI_m1, m1_nI, nI_lem1, m1_le, m1_lt, nI_ltm1, nI_bit, nI_shl, nI_xor, nI_or, n_rem, forall_eq, true_and, and_true, implies_true, true_implies, false_implies, not_true_eq_false, not_false_eq_true, Nat.zero_add, Nat.add_zero, ite_true, ite_false, if_true, if_false, true_or, or_true, false_or, or_false, and_self, and_false, false_and, Nat.reduceEqDiff, reduceIte]
        unfold zTi at last
        cases hg : plG P with
        | none =>
          rw [hg] at hcd last
          simp only [mCd] at hcd
          rw [hcd]
          refine ⟨fun z => absurd rfl z, fun _ => ml_tiredOf hP2 hN2 hp ?_⟩
          have e1 : zT (zS2 P s p t) p = zT s p := rfl
          rw [e1] at last ⊢
          simp (disch := omega) only [i_0, i_1, i_2, i_3, i_4, i_5, i_6, i_7, i_8, i_9, i_10, i_11, i_12, i_13, i_16, i_19, i_20, i_21, i_22, i_23, i_24, i_25, i_30, i_31, i_32, i_39, i_40, i_41, i_42, i_43, i_44, i_45, i_47, i_48, i_49, i_50, i_51, i_52, i_57, i_59, i_60, i_61, i_62, i_63, i_64, i_71, i_72, i_80, i_91, i_93, i_97, i_99, i_100, i_122, i_227, i_228, i_232, i_251, i_255, i_256, i_463, i_999, i_1000, i_1519, i_1600, i_9999, i_100000000, i_2147483639, i_2147483647, neg_nI1, nI_add, pk_mul, nI_remL, pk_sub, pk_div, nI_clamp, nI_leI, nI_ltI, nI_eq, vpT, nI_m1, m1_nI, nI_lem1, m1_le, m1_lt, nI_ltm1, nI_bit, nI_shl, nI_xor, nI_or, n_rem, l_0, l_1, l_9, l_27, l_64, l_12345, l_1000000, l_1103515245, l_2147483648, l_1000000000000000, lI_neg, lI_add, lI_sub, lI_mul, lgc_le, lgc_ge, lgc_eq, lgc_lt, lgc_gt, nI_toL, lI_toI]
          refine ml_cut (by omega) (by omega) ?_
          have e2 : cut9 ((zT s p + 1 : Nat) : Int) = min 9 (zT s p + 1) := by unfold cut9; rw [if_neg (by omega)]; split <;> omega
          rw [e2]
          exact last σ2 (Fm.refl _ _ _ _) rfl rfl rfl hS2
        | some cs =>
          rw [hg] at hcd last
          obtain ⟨hty, hlen⟩ := hok cs hg
          have hcd0 := hcd
          obtain ⟨f, c1, c2, c3, c4⟩ := hcd
          obtain ⟨sd, q1, q2⟩ := hS2
          rw [c1]
          refine ⟨fun _ => ?_, fun z => ?_⟩
          · refine ml_tell (w := 1) (al := al0) hP2 hN2 ⟨g54, g55, q2⟩ hp (by omega) q1 (by decide) hcd0 (fun i hi => by simp [al0] at hi; omega) hty (fun σ3 hF3 => ?_)
            have hev : evV (zPt (zS2 P s p t) p t sd) lk0 cs = evV (zPt (zS2 P s p t) p t 0) lk0 cs := by
              unfold evV
              rw [evL_al (al := al0) (pt' := zPt (zS2 P s p t) p t 0) (fun i _ hi => by simp [al0] at hi; unfold zPt; repeat' split; all_goals first | rfl | omega) hty]
            rw [hev]
            have hv := evV_in hP.1 hN2.1 hp (show t < 1000 by omega) (show 0 < 1000 by decide) hty
            refine ml_cut (by omega) (by omega) ?_
            exact last σ3 (hF3.wide (by decide) (by decide) (by decide)) (hF3.2.1 52 (by decide)) (hF3.1 59 (by decide)) (hF3.1 58 (by decide)) ⟨sd, q1, by rw [hF3.1 56 (by decide)]; exact q2⟩
          · rw [nI_m1 (by omega)] at z; exact z.elim
      rw [hw2]
      refine ml_cellOf hP1 hN1 hp ?_
      have right : ∀ σ2 (x5 : Int32), x5 = (if 0 < zA s p % 8 then nI (c7 (zA s p) - 1) else M1) → Fm kAs [52] [108] σ σ2 → mN σ2 P (zS1 P s p t) → fI σ2 0 59 = nI (zLl P s p t).1 → fI σ2 0 58 = fI σ 0 58 → mSd σ2 → (∀ k, 50 ≤ k → fA σ2 52 k = fA σ 52 k) → fI σ2 0 54 = nI p → fI σ2 0 55 = nI t → mw_isAsked_100 (nI p) (nI t) (nI 2) (nI (c7 (zA s p))) x5 (if zA s p % 8 + 1 < plC P then nI (c7 (zA s p) + 1) else M1) σ2 Q := by
        intro σ2 x5 hx5 hF2 hN2 h592 h582 hS2 ho g54 g55
        have hP2 := hP.fm hF2 (by decide) (by decide) (by decide)
        unfold mw_isAsked_100
        by_cases z : zA s p % 8 + 1 < plC P
        · rw [if_pos z]
          have hcr : isC P (zA s p + 1) := by have := hcell.2; have := hC; constructor <;> omega
          have e1 : c7 (zA s p) + 1 = c7 (zA s p + 1) := by unfold c7; omega
          refine ⟨fun q => ?_, fun _ => ?_⟩
          · have q : nI (c7 (zA s p) + 1) = M1 := q
            rw [nI_m1 (by omega)] at q; exact q.elim
          · rw [e1]
            refine ml_lifts (own := zA s p) (s := zS1 P s p t) (m0 := (zLl P s p t).1) hP2 hN2 hp ht g54 g55 hS2 hcr ⟨by omega, by omega, by omega⟩ (exl_r hP.1 hcell x5 z hx5) h592 (fun σ3 hF3 hN3 h593 hS3 ho3 => ?_)
            have e2 : zLr P (zS1 P s p t) p t = zLf P (zA s p) (zA s p + 1) (zTm P (zS1 P s p t) p t (zH (zS1 P s p t) (zA s p + 1))) (zH (zS1 P s p t)) := by unfold zLr; rw [if_pos (show zA (zS1 P s p t) p % 8 + 1 < plC P from z)]; rfl
            rw [← e2] at hN3 h593
            refine fin σ3 (hF2.trans (hF3.wide (by decide) (by decide) (by decide))) hN3 h593 (by rw [hF3.1 58 (by decide)]; exact h582) hS3 (fun k hk => (ho3 k hk).trans (ho k hk)) (by rw [hF3.1 54 (by decide)]; exact g54) (by rw [hF3.1 55 (by decide)]; exact g55)
        · rw [if_neg z]
          refine ⟨fun _ => ?_, fun q => absurd rfl q⟩
          have e2 : zLr P (zS1 P s p t) p t = (0, zH (zS1 P s p t)) := by unfold zLr; rw [if_neg (show ¬ zA (zS1 P s p t) p % 8 + 1 < plC P from z)]
          refine fin σ2 hF2 ?_ ?_ h582 hS2 ho g54 g55
          · unfold zS2; rw [e2]; exact hN2
          · unfold zMu; rw [e2]; exact h592
      have left : ∀ (x5 : Int32), x5 = (if 0 < zA s p % 8 then nI (c7 (zA s p) - 1) else M1) → mw_isAsked_82 (nI p) (nI t) (nI 2) (nI (c7 (zA s p))) x5 (if zA s p % 8 + 1 < plC P then nI (c7 (zA s p) + 1) else M1) σ1 Q := by
        intro x5 hx5
        unfold mw_isAsked_82
        by_cases z : 0 < zA s p % 8
        · have hclf : isC P (zA s p - 1) := by have h1 := hcell.1; have h2 := hcell.2; constructor <;> omega
          have e1 : c7 (zA s p) - 1 = c7 (zA s p - 1) := by unfold c7; omega
          refine ⟨fun q => ?_, fun _ => ?_⟩
          · rw [hx5, if_pos z] at q
            have q : nI (c7 (zA s p) - 1) = M1 := q
            rw [nI_m1 (by omega)] at q; exact q.elim
          · have hx5' := hx5
            rw [if_pos z, e1] at hx5'
            subst hx5'
            refine ml_lifts (own := zA s p) (m0 := 0) hP1 hN1 hp ht h54 h55 hS1 hclf ⟨by omega, by omega, by omega⟩ (exl_l hP.1 hcell _ z rfl) h59 (fun σ3 hF3 hN3 h593 hS3 ho3 => ?_)
            have e2 : zLl P s p t = zLf P (zA s p) (zA s p - 1) (zTm P s p t (zH s (zA s p - 1))) (zH s) := by unfold zLl; rw [if_pos z]
            rw [← e2] at hN3 h593
            rw [Nat.zero_add] at h593
            refine right σ3 _ hx5 (hF.trans (hF3.wide (by decide) (by decide) (by decide))) hN3 h593 (by rw [hF3.1 58 (by decide)]; exact h58) hS3 (fun k hk => by rw [ho3 k hk, e52]) (by rw [hF3.1 54 (by decide)]; exact h54) (by rw [hF3.1 55 (by decide)]; exact h55)
        · have hx5' := hx5
          rw [if_neg z] at hx5'
          refine ⟨fun _ => ?_, fun q => absurd hx5' q⟩
          have e2 : zLl P s p t = (0, zH s) := by unfold zLl; rw [if_neg z]
          refine right σ1 _ hx5 hF ?_ ?_ h58 hS1 (fun k hk => by rw [e52]) h54 h55
          · unfold zS1; rw [e2]; exact hN1
          · rw [e2]; exact h59
      have mid : ∀ (x5 : Int32), x5 = (if 0 < zA s p % 8 then nI (c7 (zA s p) - 1) else M1) → mw_isAsked_56 (nI p) (nI t) (nI 2) (nI (c7 (zA s p))) x5 σ1 Q := by
        intro x5 hx5
        have hl := left x5 hx5
        unfold mw_isAsked_56
        simp (disch := omega) only [i_0, i_1, i_2, i_3, i_4, i_5, i_6, i_7, i_8, i_9, i_10, i_11, i_12, i_13, i_16, i_19, i_20, i_21, i_22, i_23, i_24, i_25, i_30, i_31, i_32, i_39, i_40, i_41, i_42, i_43, i_44, i_45, i_47, i_48, i_49, i_50, i_51, i_52, i_57, i_59, i_60, i_61, i_62, i_63, i_64, i_71, i_72, i_80, i_91, i_93, i_97, i_99, i_100, i_122, i_227, i_228, i_232, i_251, i_255, i_256, i_463, i_999, i_1000, i_1519, i_1600, i_9999, i_100000000, i_2147483639, i_2147483647, neg_nI1, nI_add, pk_mul, nI_remL, pk_sub, pk_div, nI_clamp, nI_leI, nI_ltI, nI_eq, vpT, nI_m1, m1_nI, nI_lem1, m1_le, m1_lt, nI_ltm1, nI_bit, nI_shl, nI_xor, nI_or, n_rem, forall_eq, true_and, and_true, implies_true, true_implies, false_implies, not_true_eq_false, not_false_eq_true, Nat.zero_add, Nat.add_zero, ite_true, ite_false, if_true, if_false, true_or, or_true, false_or, or_false, and_self, and_false, false_and, Nat.reduceEqDiff, reduceIte]
        rw [hP1.2.2.1.1]
        simp (disch := omega) only [i_0, i_1, i_2, i_3, i_4, i_5, i_6, i_7, i_8, i_9, i_10, i_11, i_12, i_13, i_16, i_19, i_20, i_21, i_22, i_23, i_24, i_25, i_30, i_31, i_32, i_39, i_40, i_41, i_42, i_43, i_44, i_45, i_47, i_48, i_49, i_50, i_51, i_52, i_57, i_59, i_60, i_61, i_62, i_63, i_64, i_71, i_72, i_80, i_91, i_93, i_97, i_99, i_100, i_122, i_227, i_228, i_232, i_251, i_255, i_256, i_463, i_999, i_1000, i_1519, i_1600, i_9999, i_100000000, i_2147483639, i_2147483647, neg_nI1, nI_add, pk_mul, nI_remL, pk_sub, pk_div, nI_clamp, nI_leI, nI_ltI, nI_eq, vpT, nI_m1, m1_nI, nI_lem1, m1_le, m1_lt, nI_ltm1, nI_bit, nI_shl, nI_xor, nI_or, n_rem, hcm]
        refine ⟨fun z => ?_, fun z => ?_⟩
        · rw [if_neg (by omega)] at hl; exact hl
        · rw [if_pos (by omega)] at hl; exact hl
      simp (disch := omega) only [i_0, i_1, i_2, i_3, i_4, i_5, i_6, i_7, i_8, i_9, i_10, i_11, i_12, i_13, i_16, i_19, i_20, i_21, i_22, i_23, i_24, i_25, i_30, i_31, i_32, i_39, i_40, i_41, i_42, i_43, i_44, i_45, i_47, i_48, i_49, i_50, i_51, i_52, i_57, i_59, i_60, i_61, i_62, i_63, i_64, i_71, i_72, i_80, i_91, i_93, i_97, i_99, i_100, i_122, i_227, i_228, i_232, i_251, i_255, i_256, i_463, i_999, i_1000, i_1519, i_1600, i_9999, i_100000000, i_2147483639, i_2147483647, neg_nI1, nI_add, pk_mul, nI_remL, pk_sub, pk_div, nI_clamp, nI_leI, nI_ltI, nI_eq, vpT, nI_m1, m1_nI, nI_lem1, m1_le, m1_lt, nI_ltm1, nI_bit, nI_shl, nI_xor, nI_or, n_rem, hcm]
      refine ⟨fun z => mid _ (by rw [if_neg (by omega)]), fun z => mid _ (by rw [if_pos (by omega), pk_sub (by unfold c7; omega)])⟩
    · have h9 := hQ σ1 hF ⟨?_, ?_, ?_⟩ hS1 ?_ ?_
      · exact h9
      · have : zAs P sil s p t = s := by unfold zAs; rw [if_neg (by omega)]
        rw [this]; exact hN1
      · have : zAs P sil s p t = s := by unfold zAs; rw [if_neg (by omega)]
        intro _ hk
        rw [this]
        unfold mKe at hk ⊢
        rw [e52]; exact hk
      · intro _ k _; rw [e52]
      · unfold zAm; rw [if_neg (by omega)]; exact h59
      · rw [if_neg (by omega), h58]; exact (Int32.add_zero _).symm
  · have hw : zWo P sil s p t = 0 := by unfold zWo; rw [if_pos (Or.inr c)]
    have e : zAs P sil s p t = s := by unfold zAs; rw [hw]; rfl
    have h9 := hQ _ hF0 ⟨by rw [e]; exact hN.eqv rfl, by rw [e]; exact fun _ h => h, fun _ _ _ => rfl⟩ (by obtain ⟨sd, q1, q2⟩ := hS; exact ⟨sd, q1, by rw [fI_sI]; simpa using q2⟩) (by unfold zAm; rw [hw]; rw [fI_sI]; simp) (by rw [hw]; rw [fI_sI]; simp; exact (Int32.add_zero _).symm)
    rw [hw] at h9
    exact h9
