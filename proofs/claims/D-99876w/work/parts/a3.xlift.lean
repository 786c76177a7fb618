/-! THE SYSTEM: the highest, what is lifted -/
theorem nI_negsub {a b : Nat} (h : a < b) (hb : b < 2 ^ 31) : ¬ (0 : Int32) ≤ nI a - nI b := by
  intro q
  have e : (nI a - nI b).toInt = (a : Int) - b := by
    rw [Int32.toInt_sub, nI_toInt (by omega), nI_toInt hb, Int.bmod_eq_of_le (by omega) (by omega)]
  rw [Int32.le_iff_toInt_le, e] at q
  have e0 : (0 : Int32).toInt = 0 := rfl
  omega
theorem xl_abs {ν : XN} {a b : Nat} {Q : Int32 → XN → Prop} (ha : a < 2 ^ 31) (hb : b < 2 ^ 31) (hQ : Q (nI (a - b + (b - a))) ν) : xw_J12_abs (nI a - nI b) ν Q := by
  unfold xw_J12_abs
  rcases Nat.lt_or_ge a b with z | z
  · refine ⟨fun q => absurd q (nI_negsub z hb), fun _ => ?_⟩
    rw [Int32.neg_sub, pk_sub (by omega)]
    rw [show a - b + (b - a) = b - a by omega] at hQ
    exact hQ
  · rw [pk_sub z]
    rw [show a - b + (b - a) = a - b by omega] at hQ
    refine ⟨fun _ => hQ, fun q => absurd ?_ q⟩
    rw [i_0, nI_leI (by omega) (by omega)]
    omega
def oX (o : Option Nat) : Int32 := match o with
  | none => M1
  | some d => nI d
theorem xl_highest {ν : XN} {o b own : Nat} {P : Pl} {h : Nat → Nat} {Q : Int32 → XN → Prop} (h1 : 10 ≤ o) (h2 : o < 36) (hC : xPb ν b P) (hP : plOK P) (hh : ∀ c, isC P c → fA ν.1 (hK o) c = nI (h c) ∧ h c ≤ 99) (ho : own < 64) (hQ : ∀ f, zHi P h own = some f → Q (nI f) ν) : xw_X5_highest o (nI own) ν Q := by
  obtain ⟨kh1, kh2, kh3⟩ := xk_h h1 h2
  unfold xw_X5_highest xw_X5_highest_4
  intro X hX
  have key : ∀ n k (bo : Option Nat), 64 - k = n → k ≤ 64 → (∀ d, bo = some d → isC P d) → Q (oX ((((List.range 64).drop k).filter (fun c => decide (c % 8 < plC P ∧ c / 8 < plR P))).foldl (hiS h own) bo)) ν → X o (nI own) (oX bo) (nI k) ν := by
    intro n
    induction n with
    | zero =>
      intro k bo hn hk hb hq
      rw [List.drop_eq_nil_of_le (by simp; omega)] at hq
      refine hX _ _ _ _ _ ⟨fun _ => hq, fun c => absurd (?_ : nI 64 ≤ nI k) c⟩
      rw [nI_leI (by omega) (by omega)]; omega
    | succ n ih =>
      intro k bo hn hk hb hq
      rw [List.drop_eq_getElem_cons (by simp; omega), List.getElem_range, List.filter_cons] at hq
      have next : ∀ bo', (∀ d, bo' = some d → isC P d) → Q (oX ((((List.range 64).drop (k + 1)).filter (fun c => decide (c % 8 < plC P ∧ c / 8 < plR P))).foldl (hiS h own) bo')) ν → X o (nI own) (oX bo') (nI (k + 1)) ν := by
        intro bo' hb' hq'
        exact ih (k + 1) bo' (by omega) (by omega) hb' hq'
      refine hX _ _ _ _ _ ⟨fun c => ?_, fun _ => ⟨xoc_st h1 h2, ?_⟩⟩
      · have c2 : nI 64 ≤ nI k := c
        rw [nI_leI (by omega) (by omega)] at c2; omega
      · refine xl_isCellN hC (by omega) (fun hc => ⟨fun q => absurd q (by decide), fun _ => ?_⟩) (fun hc => ⟨fun _ => ?_, fun q => absurd rfl q⟩)
        · rw [if_pos (by rw [decide_eq_true_iff]; exact hc), List.foldl_cons] at hq
          have hkc := hh k hc
          have go45 : ¬ exl own k → xw_X5_highest_45 X o (nI own) (oX bo) (nI k) ν Q := by
            intro he
            unfold xw_X5_highest_45 xw_X5_highest_65 xw_X5_highest_67
            cases bo with
            | none =>
              rw [hiS_none he] at hq
              exact ⟨fun _ => by rw [nI_1]; exact next (some k) (fun d hd => by cases hd; exact hc) hq, fun q => absurd rfl q⟩
            | some d =>
              have hd := hb d rfl
              have hdc := hh d hd
              have hdl := isC_lt hP hd
              show (nI d = M1 → _) ∧ (¬ nI d = M1 → _)
              simp only [oX, kh1, kh2, kh3, xoc_st h1 h2]
              have g1 := hkc.2
              have g2 := hdc.2
              simp (disch := omega) only [i_0, i_1, i_2, i_3, i_4, i_5, i_6, i_7, i_8, i_9, i_10, i_11, i_12, i_13, i_16, i_19, i_20, i_21, i_22, i_23, i_24, i_25, i_30, i_31, i_32, i_39, i_40, i_41, i_42, i_43, i_44, i_45, i_47, i_48, i_49, i_50, i_51, i_52, i_57, i_59, i_60, i_61, i_62, i_63, i_64, i_71, i_72, i_80, i_91, i_93, i_97, i_99, i_100, i_122, i_227, i_228, i_232, i_251, i_255, i_256, i_463, i_999, i_1000, i_1519, i_1600, i_9999, i_100000000, i_2147483639, i_2147483647, neg_nI1, nI_add, pk_mul, nI_remL, pk_sub, pk_div, nI_clamp, nI_leI, nI_ltI, nI_eq, vpT, nI_m1, m1_nI, nI_lem1, m1_le, m1_lt, nI_ltm1, nI_bit, nI_shl, nI_xor, nI_or, n_rem, forall_eq, true_and, and_true, implies_true, true_implies, false_implies, not_true_eq_false, not_false_eq_true, Nat.zero_add, Nat.add_zero, ite_true, ite_false, if_true, if_false, true_or, or_true, false_or, or_false, and_self, and_false, false_and, Nat.reduceEqDiff, reduceIte, hkc.1, hdc.1]
              refine ⟨fun z => ?_, fun z => ?_⟩
              · rw [hiS_keep he (by omega)] at hq
                exact next (some d) (fun d' hd' => by cases hd'; exact hd) hq
              · rw [hiS_take he (by omega)] at hq
                exact next (some k) (fun d' hd' => by cases hd'; exact hc) hq
          simp (disch := omega) only [i_0, i_1, i_2, i_3, i_4, i_5, i_6, i_7, i_8, i_9, i_10, i_11, i_12, i_13, i_16, i_19, i_20, i_21, i_22, i_23, i_24, i_25, i_30, i_31, i_32, i_39, i_40, i_41, i_42, i_43, i_44, i_45, i_47, i_48, i_49, i_50, i_51, i_52, i_57, i_59, i_60, i_61, i_62, i_63, i_64, i_71, i_72, i_80, i_91, i_93, i_97, i_99, i_100, i_122, i_227, i_228, i_232, i_251, i_255, i_256, i_463, i_999, i_1000, i_1519, i_1600, i_9999, i_100000000, i_2147483639, i_2147483647, neg_nI1, nI_add, pk_mul, nI_remL, pk_sub, pk_div, nI_clamp, nI_leI, nI_ltI, nI_eq, vpT, nI_m1, m1_nI, nI_lem1, m1_le, m1_lt, nI_ltm1, nI_bit, nI_shl, nI_xor, nI_or, n_rem, forall_eq, true_and, and_true, implies_true, true_implies, false_implies, not_true_eq_false, not_false_eq_true, Nat.zero_add, Nat.add_zero, ite_true, ite_false, if_true, if_false, true_or, or_true, false_or, or_false, and_self, and_false, false_and, Nat.reduceEqDiff, reduceIte]
          refine ⟨fun q => go45 (fun e => q e.1), fun q => ?_⟩
          refine xl_abs (by omega) (by omega) ?_
          simp (disch := omega) only [i_0, i_1, i_2, i_3, i_4, i_5, i_6, i_7, i_8, i_9, i_10, i_11, i_12, i_13, i_16, i_19, i_20, i_21, i_22, i_23, i_24, i_25, i_30, i_31, i_32, i_39, i_40, i_41, i_42, i_43, i_44, i_45, i_47, i_48, i_49, i_50, i_51, i_52, i_57, i_59, i_60, i_61, i_62, i_63, i_64, i_71, i_72, i_80, i_91, i_93, i_97, i_99, i_100, i_122, i_227, i_228, i_232, i_251, i_255, i_256, i_463, i_999, i_1000, i_1519, i_1600, i_9999, i_100000000, i_2147483639, i_2147483647, neg_nI1, nI_add, pk_mul, nI_remL, pk_sub, pk_div, nI_clamp, nI_leI, nI_ltI, nI_eq, vpT, nI_m1, m1_nI, nI_lem1, m1_le, m1_lt, nI_ltm1, nI_bit, nI_shl, nI_xor, nI_or, n_rem, forall_eq, true_and, and_true, implies_true, true_implies, false_implies, not_true_eq_false, not_false_eq_true, Nat.zero_add, Nat.add_zero, ite_true, ite_false, if_true, if_false, true_or, or_true, false_or, or_false, and_self, and_false, false_and, Nat.reduceEqDiff, reduceIte]
          refine ⟨fun q2 => go45 (fun e => ?_), fun q2 => ?_⟩
          · have := e.2; omega
          · rw [hiS_skip (show exl own k from ⟨q, by omega, by omega⟩)] at hq
            unfold xw_X5_highest_67
            rw [nI_1]
            exact next bo hb hq
        · rw [if_neg (by rw [decide_eq_true_iff]; exact hc)] at hq
          unfold xw_X5_highest_67
          rw [nI_1]
          exact next bo hb hq
  obtain ⟨f, hf, -, -⟩ := zHi_ok hP h own
  refine key 64 0 none rfl (by decide) (fun d hd => by cases hd) ?_
  have h9 := hQ f hf
  unfold zHi cls at hf
  rw [List.drop_zero, hf]
  exact h9
theorem kdiv {o : Nat} : hK o / 100 = o + 90 ∧ aK o / 100 = o + 90 ∧ tK' o / 100 = o + 90 ∧ kK o / 100 = o + 90 := by unfold hK aK tK' kK; omega
theorem kne {o : Nat} : hK o ≠ aK o ∧ hK o ≠ tK' o ∧ hK o ≠ kK o ∧ aK o ≠ tK' o ∧ aK o ≠ kK o ∧ tK' o ≠ kK o := by unfold hK aK tK' kK; omega
/-- a row's key is none of the others -/
theorem xRk.ne {σ : FS} {o i : Nat} (h : xRk σ o) (hi : i < 40) : fP σ (rK o) i ≠ hK o ∧ fP σ (rK o) i ≠ aK o ∧ fP σ (rK o) i ≠ tK' o ∧ fP σ (rK o) i ≠ kK o ∧ fP σ (rK o) i / 100 = o + 90 := by
  obtain ⟨j, j1, j2, j3⟩ := h.1 i hi
  rw [j3]
  unfold hK aK tK' kK
  omega
theorem xRk.ok {σ : FS} {o i : Nat} (h1 : 10 ≤ o) (h2 : o < 36) (h : xRk σ o) (hi : i < 40) : xok 1 (fP σ (rK o) i) ∧ xlen (fP σ (rK o) i) = 4 := by
  obtain ⟨j, j1, j2, j3⟩ := h.1 i hi
  rw [j3]
  have e := xat_st h1 h2 j2
  rw [if_neg (by omega), if_neg (by omega), if_neg (by omega), if_pos j1] at e
  exact ⟨show (xat _).1 = 1 by rw [e], show (xat _).2 = 4 by rw [e]⟩
/-- heights alone change -/
theorem xSt.h {σ σ' : FS} {o : Nat} {P : Pl} {s : St} {h : Nat → Nat} (hs : xSt σ o P s) (eI : fI σ' = fI σ) (eP : fP σ' = fP σ) (eA : ∀ a, a ≠ hK o → fA σ' a = fA σ a) (hh : ∀ c, isC P c → fA σ' (hK o) c = nI (h c) ∧ h c ≤ 99) : xSt σ' o P (setH s h) := by
  obtain ⟨s1, s2, s3, s4, s5, s6, s7⟩ := hs
  refine ⟨s1.setH (fun c hc => (hh c hc).2), by rw [eI]; exact s2, by rw [eI]; exact s3, fun c hc => (hh c hc).1, fun p hp => ?_, ?_, fun k r hr => ?_⟩
  · rw [eA _ kne.1.symm, eA _ kne.2.1.symm, eA _ kne.2.2.1.symm]; exact s5 p hp
  · unfold xRk; rw [eP]; exact s6
  · have hk : k < 40 := by
      have := s1.2.2.2
      have := (List.getElem?_eq_some_iff.mp hr).1
      exact Nat.lt_of_lt_of_le this (by assumption)
    rw [eP, eA _ (s6.ne hk).1]
    exact s7 k r hr
theorem xl_lifted {VA : Nat → Nat → XN → (Int64 → XN → Prop) → Prop} {TA : Nat → Nat → XN → (Int32 → XN → Prop) → Prop} {ν : XN} {o p t b c : Nat} {P : Pl} {s : St} {Q : Int32 → XN → Prop} (h1 : 10 ≤ o) (h2 : o < 36) (hC : xCx VA TA ν b P) (hs : xSt ν.1 o P s) (hp : p < nP P) (ht : t < nT P) (hc : isC P c) (hec : exl (zA s p) c)
    (hQ : ∀ ν', XGo o ν.1 ν'.1 → ν'.2 = ν.2 → xSt ν'.1 o P (setH s (zLf P (zA s p) c (zTm P s p t (zH s c)) (zH s)).2) → Q (nI (zLf P (zA s p) c (zTm P s p t (zH s c)) (zH s)).1) ν') : xw_X5_lifted VA TA o (nI p) (nI t) (nI c) ν Q := by
  have hP := hC.2.1
  obtain ⟨kh1, kh2, kh3⟩ := xk_h h1 h2
  obtain ⟨ka1, ka2, ka3⟩ := xk_a h1 h2
  have h7 := hP.2.2.2.2.1
  have hcl := isC_lt hP hc
  obtain ⟨c1, c2, c3⟩ := hs.1.2.2.1 p hp
  obtain ⟨a1, a2, a3⟩ := hs.2.2.2.2.1 p hp
  have hol := isC_lt hP c1
  unfold xw_X5_lifted
  refine ⟨xoc_st h1 h2, xl_isCellN hC.1 (by omega) (fun _ => ⟨fun q => absurd q (by decide), fun _ => ?_⟩) (fun q => absurd hc q)⟩
  simp only [ka1, ka2, ka3]
  simp (disch := omega) only [i_0, i_1, i_2, i_3, i_4, i_5, i_6, i_7, i_8, i_9, i_10, i_11, i_12, i_13, i_16, i_19, i_20, i_21, i_22, i_23, i_24, i_25, i_30, i_31, i_32, i_39, i_40, i_41, i_42, i_43, i_44, i_45, i_47, i_48, i_49, i_50, i_51, i_52, i_57, i_59, i_60, i_61, i_62, i_63, i_64, i_71, i_72, i_80, i_91, i_93, i_97, i_99, i_100, i_122, i_227, i_228, i_232, i_251, i_255, i_256, i_463, i_999, i_1000, i_1519, i_1600, i_9999, i_100000000, i_2147483639, i_2147483647, neg_nI1, nI_add, pk_mul, nI_remL, pk_sub, pk_div, nI_clamp, nI_leI, nI_ltI, nI_eq, vpT, nI_m1, m1_nI, nI_lem1, m1_le, m1_lt, nI_ltm1, nI_bit, nI_shl, nI_xor, nI_or, n_rem, forall_eq, true_and, and_true, implies_true, true_implies, false_implies, not_true_eq_false, not_false_eq_true, Nat.zero_add, Nat.add_zero, ite_true, ite_false, if_true, if_false, true_or, or_true, false_or, or_false, and_self, and_false, false_and, Nat.reduceEqDiff, reduceIte, a1]
  refine ⟨fun _ => ?_, fun q => absurd hec.1 q⟩
  refine xl_times h1 h2 hC hs hp ht hc (fun ν1 hB e1 => ?_)
  have hn9 : zTm P s p t (zH s c) ≤ 9 := by unfold zTm; split <;> first | omega | exact cut9_le _
  generalize zTm P s p t (zH s c) = n at hQ hn9 ⊢
  unfold xw_X5_lifted_41
  intro X hX
  have key : ∀ j k (h : Nat → Nat) (ν2 : XN), n - k = j → k ≤ n → (∀ d, isC P d → fA ν2.1 (hK o) d = nI (h d) ∧ h d ≤ 99) → XGo o ν.1 ν2.1 → ν2.2 = ν.2 → fI ν2.1 = fI ν.1 → fP ν2.1 = fP ν.1 → (∀ a, a ≠ hK o → fA ν2.1 a = fA ν.1 a) → k + (zLf P (zA s p) c j h).1 = (zLf P (zA s p) c n (zH s)).1 → (zLf P (zA s p) c j h).2 = (zLf P (zA s p) c n (zH s)).2 → X o (nI p) (nI c) (nI n) (nI k) ν2 := by
    intro j
    induction j with
    | zero =>
      intro k h ν2 hj hk hh hG e2 eI eP eA g1 g2
      have hkn : k = n := by omega
      simp only [zLf] at g1 g2
      refine hX _ _ _ _ _ _ ⟨fun _ => ?_, fun z => absurd ((nI_leI (by omega) (by omega)).mpr (by omega)) z⟩
      have h9 := hQ ν2 hG e2 (by rw [← g2]; exact hs.h eI eP eA hh)
      rw [← g1, Nat.add_zero, hkn] at h9
      exact h9
    | succ j ih =>
      intro k h ν2 hj hk hh hG e2 eI eP eA g1 g2
      have hC2 : xCx VA TA ν2 b P := hC.e hG.r e2
      have fin : (zLf P (zA s p) c (j + 1) h) = (0, h) → Q (nI k) ν2 := by
        intro z
        rw [z] at g1 g2
        have h9 := hQ ν2 hG e2 (by rw [← g2]; exact hs.h eI eP eA hh)
        rw [← g1, Nat.add_zero] at h9
        exact h9
      have ea : fA ν2.1 (aK o) p = nI (zA s p) := by rw [eA _ kne.1.symm]; exact a1
      refine hX _ _ _ _ _ _ ⟨fun z => absurd ((nI_leI (by omega) (by omega)).mp z) (by omega), fun _ => ?_⟩
      simp only [ka1, ka2, ka3, kh1, kh2, kh3, xoc_st h1 h2]
      simp (disch := omega) only [i_0, i_1, i_2, i_3, i_4, i_5, i_6, i_7, i_8, i_9, i_10, i_11, i_12, i_13, i_16, i_19, i_20, i_21, i_22, i_23, i_24, i_25, i_30, i_31, i_32, i_39, i_40, i_41, i_42, i_43, i_44, i_45, i_47, i_48, i_49, i_50, i_51, i_52, i_57, i_59, i_60, i_61, i_62, i_63, i_64, i_71, i_72, i_80, i_91, i_93, i_97, i_99, i_100, i_122, i_227, i_228, i_232, i_251, i_255, i_256, i_463, i_999, i_1000, i_1519, i_1600, i_9999, i_100000000, i_2147483639, i_2147483647, neg_nI1, nI_add, pk_mul, nI_remL, pk_sub, pk_div, nI_clamp, nI_leI, nI_ltI, nI_eq, vpT, nI_m1, m1_nI, nI_lem1, m1_le, m1_lt, nI_ltm1, nI_bit, nI_shl, nI_xor, nI_or, n_rem, forall_eq, true_and, and_true, implies_true, true_implies, false_implies, not_true_eq_false, not_false_eq_true, Nat.zero_add, Nat.add_zero, ite_true, ite_false, if_true, if_false, true_or, or_true, false_or, or_false, and_self, and_false, false_and, Nat.reduceEqDiff, reduceIte, ea]
      refine xl_highest h1 h2 hC2.1 hP hh (by omega) (fun f hf => ?_)
      obtain ⟨f', hf', hfc, hfx⟩ := zHi_ok hP h (zA s p)
      rw [hf] at hf'
      cases hf'
      have hfl := isC_lt hP hfc
      have hfne : f ≠ c := fun z => hfx (z ▸ hec)
      obtain ⟨v1, v2⟩ := hh f hfc
      obtain ⟨w1, w2⟩ := hh c hc
      have hsf : fA (sA ν2.1 (hK o) f (nI (h f - 1))) (hK o) c = nI (h c) := by rw [fA_sA, if_neg (fun q => hfne q.2.symm)]; exact w1
      simp only [zLf, hf] at g1 g2 fin
      simp (disch := omega) only [i_0, i_1, i_2, i_3, i_4, i_5, i_6, i_7, i_8, i_9, i_10, i_11, i_12, i_13, i_16, i_19, i_20, i_21, i_22, i_23, i_24, i_25, i_30, i_31, i_32, i_39, i_40, i_41, i_42, i_43, i_44, i_45, i_47, i_48, i_49, i_50, i_51, i_52, i_57, i_59, i_60, i_61, i_62, i_63, i_64, i_71, i_72, i_80, i_91, i_93, i_97, i_99, i_100, i_122, i_227, i_228, i_232, i_251, i_255, i_256, i_463, i_999, i_1000, i_1519, i_1600, i_9999, i_100000000, i_2147483639, i_2147483647, neg_nI1, nI_add, pk_mul, nI_remL, pk_sub, pk_div, nI_clamp, nI_leI, nI_ltI, nI_eq, vpT, nI_m1, m1_nI, nI_lem1, m1_le, m1_lt, nI_ltm1, nI_bit, nI_shl, nI_xor, nI_or, n_rem, forall_eq, true_and, and_true, implies_true, true_implies, false_implies, not_true_eq_false, not_false_eq_true, Nat.zero_add, Nat.add_zero, ite_true, ite_false, if_true, if_false, true_or, or_true, false_or, or_false, and_self, and_false, false_and, Nat.reduceEqDiff, reduceIte, v1, w1]
      refine ⟨fun z => fin (if_pos (Or.inl z)), fun z1 => ⟨fun z2 => ?_, fun z2 => fin (if_pos (Or.inr z2))⟩⟩
      rw [if_neg (by omega)] at g1 g2
      rw [pk_sub (show 1 ≤ h f by omega), hsf, nI_add]
      have hG2 : XGo o ν2.1 (sA (sA ν2.1 (hK o) f (nI (h f - 1))) (hK o) c (nI (h c + 1))) := (XGo.sA _ _ _ kdiv.1).trans (XGo.sA _ _ _ kdiv.1)
      refine ih (k + 1) (up (up h f (h f - 1)) c (h c + 1)) _ (by omega) (by omega) (fun d hd => ?_) (hG.trans hG2) e2 eI eP (fun a ha => ?_) (by rw [← g1]; omega) g2
      · obtain ⟨y1, y2⟩ := hh d hd
        show fA (sA (sA ν2.1 (hK o) f (nI (h f - 1))) (hK o) c (nI (h c + 1))) (hK o) d = _ ∧ _
        rw [fA_sA, fA_sA]
        unfold up
        by_cases q1 : d = c
        · rw [if_pos ⟨rfl, q1⟩, if_pos q1]; exact ⟨rfl, by omega⟩
        · rw [if_neg (fun q => q1 q.2), if_neg q1]
          by_cases q2 : d = f
          · rw [if_pos ⟨rfl, q2⟩, if_pos q2]; exact ⟨rfl, by omega⟩
          · rw [if_neg (fun q => q2 q.2), if_neg q2]; exact ⟨y1, y2⟩
      · show fA (sA (sA ν2.1 (hK o) f (nI (h f - 1))) (hK o) c (nI (h c + 1))) a = _
        funext i
        rw [fA_sA, if_neg (fun q => ha q.1), fA_sA, if_neg (fun q => ha q.1), eA a ha]
  refine key n 0 (zH s) ν1 rfl (by omega) (fun d hd => ⟨(hs.b hB).2.2.2.1 d hd, hs.1.2.1 d hd⟩) hB.g e1 hB.1 hB.2.2.2.1 (fun a _ => by rw [hB.2.1]) (by rw [Nat.zero_add]) rfl
