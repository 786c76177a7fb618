/-! THE REFERENCE: sums, from one part to the next -/
theorem br_one : ∀ (A A' : List Nat) (x x' : Nat) (R R' : List Nat), A ++ x :: R = A' ++ x' :: R' → (∀ y ∈ A, ¬ isBr y) → (∀ y ∈ A', ¬ isBr y) → isBr x → isBr x' → x = x' := by
  intro A
  induction A with
  | nil =>
    intro A' x x' R R' he hA hA' hx hx'
    cases A' with
    | nil => simp at he; exact he.1
    | cons y A' => simp at he; exact absurd hx (by rw [he.1]; exact hA' y List.mem_cons_self)
  | cons y A ih =>
    intro A' x x' R R' he hA hA' hx hx'
    cases A' with
    | nil => simp at he; exact absurd hx' (by rw [← he.1]; exact hA y List.mem_cons_self)
    | cons y' A' =>
      simp at he
      exact ih A' x x' R R' he.2 (fun z hz => hA z (List.mem_cons_of_mem _ hz)) (fun z hz => hA' z (List.mem_cons_of_mem _ hz)) hx hx'
theorem ml_qBr {σ : FS} {t : Nat → Nat} {e a : Nat} {C Vp Vr W0 : List Nat} {br o B : Nat} {Q : Int32 → FS → Prop} (h : Xs σ t e a C (Vp ++ br :: Vr ++ W0) o B) (hB : B = W0.length) (hV : ∀ x ∈ Vp, ¬ isBr x) (hb : isBr br) (hQ : Q (nI br) σ) : mw_qBracket σ Q := by
  have hle := h.1.le
  have hl := h.2.2.2.2.2
  refine ml_qBracket (V := Vp ++ br :: Vr) h.2.2.1 (by omega) h.2.2.2.2.1 hB (fun V2 hV2 => ⟨fun e => absurd hb (hV2 br (by rw [← e]; simp)), fun b2 Vr2 e hb2 => ?_⟩)
  rw [br_one _ _ _ _ _ _ e.symm hV2 hV hb2 hb]; exact hQ
theorem ml_qBr0 {σ : FS} {t : Nat → Nat} {e a : Nat} {C Vp W0 : List Nat} {o B : Nat} {Q : Int32 → FS → Prop} (h : Xs σ t e a C (Vp ++ W0) o B) (hB : B = W0.length) (hV : ∀ x ∈ Vp, ¬ isBr x) (hQ : Q M1 σ) : mw_qBracket σ Q := by
  have hle := h.1.le
  have hl := h.2.2.2.2.2
  exact ml_qBracket (V := Vp) h.2.2.1 (by omega) h.2.2.2.2.1 hB (fun V2 hV2 => ⟨fun _ => hQ, fun b2 Vr2 e hb2 => absurd hb2 (hV b2 (by rw [e]; simp))⟩)
theorem byI_eq {t : Nat → Nat} {e b c : Nat} (ht : t b < 256) (hc : c < 256) : (byI t e b = nI c) = (bt t e b = c) := by
  unfold byI bt
  by_cases w : b < e
  · rw [if_pos w, if_pos w]; simp (disch := omega) only [nI_eq]
  · rw [if_neg w, if_neg w]
    refine propext ⟨fun z => ?_, fun z => by omega⟩
    rw [m1_nI (by omega)] at z; exact z.elim
section
variable {t : Nat → Nat} {e : Nat} {W0 : List Nat} {B : Nat} {X : Int32 → Int32 → FS → Prop} {x1 : Int32} {Q : FS → Prop}
/-- behind a part, where nothing waits for it -/
theorem cG_F {σ : FS} {a : Nat} {C V : List Nat} {o : Nat} (h : Xs σ t e a C (V ++ W0) o B) (hB : B = W0.length) (hV : ∀ x V', V = x :: V' → x < 60) (hF : cF X x1 Q σ) : cG X x1 Q σ := by
  intro K' hK
  have hle := h.1.le
  have hl := h.2.2.2.2.2
  have h105 := h.2.2.1.1
  have hfin := hK σ h.1.2.2.2.1 hF
  unfold mw_qEndsPart_0
  intro X0 h0
  refine h0 σ ?_
  rw [h.1.2.2.2.1, h.2.2.2.2.1, hB, h105]
  cases V with
  | nil =>
    simp only [List.nil_append] at *
    simp (disch := omega) only [i_0, i_1, i_2, i_3, i_4, i_5, i_6, i_7, i_8, i_9, i_10, i_11, i_12, i_13, i_16, i_19, i_20, i_21, i_22, i_23, i_24, i_25, i_30, i_31, i_32, i_39, i_40, i_41, i_42, i_43, i_44, i_45, i_47, i_48, i_49, i_50, i_51, i_52, i_57, i_59, i_60, i_61, i_62, i_63, i_64, i_71, i_72, i_80, i_91, i_93, i_97, i_99, i_100, i_122, i_227, i_228, i_232, i_251, i_255, i_256, i_463, i_999, i_1000, i_1519, i_1600, i_9999, i_100000000, i_2147483639, i_2147483647, neg_nI1, nI_add, pk_mul, nI_remL, pk_sub, pk_div, nI_clamp, nI_leI, nI_ltI, nI_eq, vpT, nI_m1, m1_nI, nI_lem1, m1_le, m1_lt, nI_ltm1, nI_bit, nI_shl, nI_xor, nI_or, n_rem, forall_eq, true_and, and_true, implies_true, true_implies, false_implies, not_true_eq_false, not_false_eq_true, Nat.zero_add, Nat.add_zero, ite_true, ite_false, if_true, if_false, true_or, or_true, false_or, or_false, and_self, and_false, false_and, Nat.reduceEqDiff, reduceIte]
    exact ⟨fun _ => hfin, fun z => absurd (Nat.le_refl _) z⟩
  | cons x V =>
    have hw := h.2.2.1.2
    have hx := hV x V rfl
    simp only [List.cons_append, List.length_cons] at hl hw ⊢
    have hW : W0.length ≤ (V ++ W0).length := by rw [List.length_append]; omega
    simp (disch := omega) only [i_0, i_1, i_2, i_3, i_4, i_5, i_6, i_7, i_8, i_9, i_10, i_11, i_12, i_13, i_16, i_19, i_20, i_21, i_22, i_23, i_24, i_25, i_30, i_31, i_32, i_39, i_40, i_41, i_42, i_43, i_44, i_45, i_47, i_48, i_49, i_50, i_51, i_52, i_57, i_59, i_60, i_61, i_62, i_63, i_64, i_71, i_72, i_80, i_91, i_93, i_97, i_99, i_100, i_122, i_227, i_228, i_232, i_251, i_255, i_256, i_463, i_999, i_1000, i_1519, i_1600, i_9999, i_100000000, i_2147483639, i_2147483647, neg_nI1, nI_add, pk_mul, nI_remL, pk_sub, pk_div, nI_clamp, nI_leI, nI_ltI, nI_eq, vpT, nI_m1, m1_nI, nI_lem1, m1_le, m1_lt, nI_ltm1, nI_bit, nI_shl, nI_xor, nI_or, n_rem, forall_eq, true_and, and_true, implies_true, true_implies, false_implies, not_true_eq_false, not_false_eq_true, Nat.zero_add, Nat.add_zero, ite_true, ite_false, if_true, if_false, true_or, or_true, false_or, or_false, and_self, and_false, false_and, Nat.reduceEqDiff, reduceIte]
    have e1 : (V ++ W0).length + 1 - 1 = (V ++ W0).length := rfl
    rw [e1, hw.1]
    simp (disch := omega) only [i_0, i_1, i_2, i_3, i_4, i_5, i_6, i_7, i_8, i_9, i_10, i_11, i_12, i_13, i_16, i_19, i_20, i_21, i_22, i_23, i_24, i_25, i_30, i_31, i_32, i_39, i_40, i_41, i_42, i_43, i_44, i_45, i_47, i_48, i_49, i_50, i_51, i_52, i_57, i_59, i_60, i_61, i_62, i_63, i_64, i_71, i_72, i_80, i_91, i_93, i_97, i_99, i_100, i_122, i_227, i_228, i_232, i_251, i_255, i_256, i_463, i_999, i_1000, i_1519, i_1600, i_9999, i_100000000, i_2147483639, i_2147483647, neg_nI1, nI_add, pk_mul, nI_remL, pk_sub, pk_div, nI_clamp, nI_leI, nI_ltI, nI_eq, vpT, nI_m1, m1_nI, nI_lem1, m1_le, m1_lt, nI_ltm1, nI_bit, nI_shl, nI_xor, nI_or, n_rem, forall_eq, true_and, and_true, implies_true, true_implies, false_implies, not_true_eq_false, not_false_eq_true, Nat.zero_add, Nat.add_zero, ite_true, ite_false, if_true, if_false, true_or, or_true, false_or, or_false, and_self, and_false, false_and, Nat.reduceEqDiff, reduceIte]
    exact ⟨fun _ => hfin, fun _ => ⟨fun _ => hfin, fun z => absurd hx z⟩⟩
/-- behind a part, where knows or lifts waits for it -/
theorem cG_60 {σ : FS} {a w : Nat} {C V : List Nat} {o : Nat} (h : Xs σ t e a C (w :: V ++ W0) (o + 1) B) (hB : B = W0.length) (hw6 : 60 ≤ w) (hQ : ∀ σ', FW σ σ' → Xs σ' t e a (C ++ [w]) (V ++ W0) o B → cG X x1 Q σ') : cG X x1 Q σ := by
  intro K' hK
  have hle := h.1.le
  have hl := h.2.2.2.2.2
  have h105 := h.2.2.1.1
  have ho := h.2.2.2.1
  unfold mw_qEndsPart_0
  intro X0 h0
  refine h0 σ ?_
  rw [h.1.2.2.2.1, h.2.2.2.2.1, hB, h105, ho.1]
  have hw := h.2.2.1.2
  simp only [List.cons_append, List.length_cons] at hl hw ⊢
  have hW : W0.length ≤ (V ++ W0).length := by rw [List.length_append]; omega
  simp (disch := omega) only [i_0, i_1, i_2, i_3, i_4, i_5, i_6, i_7, i_8, i_9, i_10, i_11, i_12, i_13, i_16, i_19, i_20, i_21, i_22, i_23, i_24, i_25, i_30, i_31, i_32, i_39, i_40, i_41, i_42, i_43, i_44, i_45, i_47, i_48, i_49, i_50, i_51, i_52, i_57, i_59, i_60, i_61, i_62, i_63, i_64, i_71, i_72, i_80, i_91, i_93, i_97, i_99, i_100, i_122, i_227, i_228, i_232, i_251, i_255, i_256, i_463, i_999, i_1000, i_1519, i_1600, i_9999, i_100000000, i_2147483639, i_2147483647, neg_nI1, nI_add, pk_mul, nI_remL, pk_sub, pk_div, nI_clamp, nI_leI, nI_ltI, nI_eq, vpT, nI_m1, m1_nI, nI_lem1, m1_le, m1_lt, nI_ltm1, nI_bit, nI_shl, nI_xor, nI_or, n_rem, forall_eq, true_and, and_true, implies_true, true_implies, false_implies, not_true_eq_false, not_false_eq_true, Nat.zero_add, Nat.add_zero, ite_true, ite_false, if_true, if_false, true_or, or_true, false_or, or_false, and_self, and_false, false_and, Nat.reduceEqDiff, reduceIte]
  have e1 : (V ++ W0).length + 1 - 1 = (V ++ W0).length := rfl
  have e2 : o + 1 - 1 = o := rfl
  rw [e1, hw.1, e2]
  have := hw.2.1
  simp (disch := omega) only [i_0, i_1, i_2, i_3, i_4, i_5, i_6, i_7, i_8, i_9, i_10, i_11, i_12, i_13, i_16, i_19, i_20, i_21, i_22, i_23, i_24, i_25, i_30, i_31, i_32, i_39, i_40, i_41, i_42, i_43, i_44, i_45, i_47, i_48, i_49, i_50, i_51, i_52, i_57, i_59, i_60, i_61, i_62, i_63, i_64, i_71, i_72, i_80, i_91, i_93, i_97, i_99, i_100, i_122, i_227, i_228, i_232, i_251, i_255, i_256, i_463, i_999, i_1000, i_1519, i_1600, i_9999, i_100000000, i_2147483639, i_2147483647, neg_nI1, nI_add, pk_mul, nI_remL, pk_sub, pk_div, nI_clamp, nI_leI, nI_ltI, nI_eq, vpT, nI_m1, m1_nI, nI_lem1, m1_le, m1_lt, nI_ltm1, nI_bit, nI_shl, nI_xor, nI_or, n_rem, forall_eq, true_and, and_true, implies_true, true_implies, false_implies, not_true_eq_false, not_false_eq_true, Nat.zero_add, Nat.add_zero, ite_true, ite_false, if_true, if_false, true_or, or_true, false_or, or_false, and_self, and_false, false_and, Nat.reduceEqDiff, reduceIte]
  refine ⟨fun z => by omega, fun _ => ⟨fun z => by omega, fun _ => ?_⟩⟩
  have hF1 : FW σ (sI σ 0 106 (nI o)) := Fm.sI σ _ (by decide)
  have hX1 : Xs (sI σ 0 106 (nI o)) t e a C (w :: (V ++ W0)) o B := ⟨h.1.q hF1, h.2.1.eqv (by rw [fI_sI]; simp) rfl, h.2.2.1.eqv (by rw [fI_sI]; simp) rfl, ⟨by rw [fI_sI]; simp, by omega⟩, by rw [fI_sI]; simpa using h.2.2.2.2.1, h.2.2.2.2.2⟩
  exact ml_qDrops hX1 (fun σ' hF hX' => hQ σ' (hF1.trans hF) hX' K' hK X0 h0)
/-- no closing bracket that fits: the signs -/
theorem cF_122 {σ : FS} {b : Nat} {C W : List Nat} {o : Nat} (h : Xs σ t e b C W o B) (hc : bt t e (lk t e b) ≠ 41) (hQ : ∀ σ', FT σ σ' → Xs σ' t e (lk t e b) C W o B → mw_qGoesOn_122 σ' (qK2 X x1 Q)) : cF X x1 Q σ := by
  unfold cF mw_qGoesOn_0
  intro X0 h0
  refine h0 σ ?_
  rw [h.1.2.2.2.1]
  simp (disch := omega) only [i_0, i_1, i_2, i_3, i_4, i_5, i_6, i_7, i_8, i_9, i_10, i_11, i_12, i_13, i_16, i_19, i_20, i_21, i_22, i_23, i_24, i_25, i_30, i_31, i_32, i_39, i_40, i_41, i_42, i_43, i_44, i_45, i_47, i_48, i_49, i_50, i_51, i_52, i_57, i_59, i_60, i_61, i_62, i_63, i_64, i_71, i_72, i_80, i_91, i_93, i_97, i_99, i_100, i_122, i_227, i_228, i_232, i_251, i_255, i_256, i_463, i_999, i_1000, i_1519, i_1600, i_9999, i_100000000, i_2147483639, i_2147483647, neg_nI1, nI_add, pk_mul, nI_remL, pk_sub, pk_div, nI_clamp, nI_leI, nI_ltI, nI_eq, vpT, nI_m1, m1_nI, nI_lem1, m1_le, m1_lt, nI_ltm1, nI_bit, nI_shl, nI_xor, nI_or, n_rem, forall_eq, true_and, and_true, implies_true, true_implies, false_implies, not_true_eq_false, not_false_eq_true, Nat.zero_add, Nat.add_zero, ite_true, ite_false, if_true, if_false, true_or, or_true, false_or, or_false, and_self, and_false, false_and, Nat.reduceEqDiff, reduceIte]
  have hlk := lk_spec (t := t) h.1.2.2.1
  refine ml_look h.1 (fun hT => ?_)
  have hX1 := h.tok (FT.at σ _) hT hlk.1
  simp (disch := omega) only [i_0, i_1, i_2, i_3, i_4, i_5, i_6, i_7, i_8, i_9, i_10, i_11, i_12, i_13, i_16, i_19, i_20, i_21, i_22, i_23, i_24, i_25, i_30, i_31, i_32, i_39, i_40, i_41, i_42, i_43, i_44, i_45, i_47, i_48, i_49, i_50, i_51, i_52, i_57, i_59, i_60, i_61, i_62, i_63, i_64, i_71, i_72, i_80, i_91, i_93, i_97, i_99, i_100, i_122, i_227, i_228, i_232, i_251, i_255, i_256, i_463, i_999, i_1000, i_1519, i_1600, i_9999, i_100000000, i_2147483639, i_2147483647, byI_eq (h.1.1.2.2.2.1 _) (show 41 < 256 by decide)]
  exact ⟨fun _ => hQ _ (FT.at σ _) hX1, fun z => absurd z hc⟩
theorem cF_41 {σ : FS} {b : Nat} {C W : List Nat} {o : Nat} (h : Xs σ t e b C W o B) (hQ : ∀ σ', FT σ σ' → Xs σ' t e (lk t e b) C W o B → ∃ rr : Int32, (∀ QQ : Int32 → FS → Prop, QQ rr σ' → mw_qBracket σ' QQ) ∧ rr ≠ nI 20 ∧ rr ≠ nI 23 ∧ rr ≠ nI 24 ∧ mw_qGoesOn_122 σ' (qK2 X x1 Q)) : cF X x1 Q σ := by
  unfold cF mw_qGoesOn_0
  intro X0 h0
  refine h0 σ ?_
  rw [h.1.2.2.2.1]
  simp (disch := omega) only [i_0, i_1, i_2, i_3, i_4, i_5, i_6, i_7, i_8, i_9, i_10, i_11, i_12, i_13, i_16, i_19, i_20, i_21, i_22, i_23, i_24, i_25, i_30, i_31, i_32, i_39, i_40, i_41, i_42, i_43, i_44, i_45, i_47, i_48, i_49, i_50, i_51, i_52, i_57, i_59, i_60, i_61, i_62, i_63, i_64, i_71, i_72, i_80, i_91, i_93, i_97, i_99, i_100, i_122, i_227, i_228, i_232, i_251, i_255, i_256, i_463, i_999, i_1000, i_1519, i_1600, i_9999, i_100000000, i_2147483639, i_2147483647, neg_nI1, nI_add, pk_mul, nI_remL, pk_sub, pk_div, nI_clamp, nI_leI, nI_ltI, nI_eq, vpT, nI_m1, m1_nI, nI_lem1, m1_le, m1_lt, nI_ltm1, nI_bit, nI_shl, nI_xor, nI_or, n_rem, forall_eq, true_and, and_true, implies_true, true_implies, false_implies, not_true_eq_false, not_false_eq_true, Nat.zero_add, Nat.add_zero, ite_true, ite_false, if_true, if_false, true_or, or_true, false_or, or_false, and_self, and_false, false_and, Nat.reduceEqDiff, reduceIte]
  have hlk := lk_spec (t := t) h.1.2.2.1
  refine ml_look h.1 (fun hT => ?_)
  have hX1 := h.tok (FT.at σ _) hT hlk.1
  obtain ⟨rr, hb, n20, n23, n24, hg⟩ := hQ _ (FT.at σ _) hX1
  refine ⟨fun _ => hg, fun _ => hb _ ⟨fun z => absurd z n20, fun _ => hb _ ⟨fun z => absurd z n23, fun _ => hb _ ⟨fun _ => hg, fun z => absurd z n24⟩⟩⟩⟩
end
