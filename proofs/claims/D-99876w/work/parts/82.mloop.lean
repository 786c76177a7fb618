/-! THE REFERENCE: brackets closed, products, sums -/
section
variable {t : Nat → Nat} {e : Nat} {W0 : List Nat} {B : Nat} {X : Int32 → Int32 → FS → Prop} {x1 : Int32} {Q : FS → Prop}
theorem Bd.ne {σ : FS} {q : Nat × Nat} (h : Bd σ q) : ¬ fI σ 0 5 = nI 0 := by
  have h1 := h.2.2.1
  have h2 := h.2.2.2
  rw [h.1]; simp (disch := omega) only [nI_eq]; omega
/-- a fault, and the codes still have room -/
def BdC (σ : FS) (q : Nat × Nat) : Prop := Bd σ q ∧ ∃ n, n < 1690 ∧ fI σ 0 103 = nI n
theorem BdC.ne {σ : FS} {q : Nat × Nat} (h : BdC σ q) : ¬ fI σ 0 5 = nI 0 := h.1.ne
theorem Bd.c {σ σ' : FS} {q : Nat × Nat} {C : List Nat} (h : Bd σ' q) (f : FT σ σ') (hC : Cq σ C) (hl : C.length < 1680) : BdC σ' q := ⟨h, C.length, by omega, by rw [f.1 103 (by decide)]; exact hC.1⟩
theorem Xs.cl {σ : FS} {t : Nat → Nat} {e a : Nat} {C W : List Nat} {o B : Nat} (h : Xs σ t e a C W o B) : C.length < 1680 := by
  have := h.1.le
  have := h.2.2.2.2.2
  omega
def brC (br : Nat) : List Nat := if br = 20 then [] else if br = 23 then [5] else [6]
theorem cF_close {σ : FS} {b br : Nat} {C Vp V : List Nat} {o : Nat} (h : Xs σ t e b C (Vp ++ br :: V ++ W0) (o + 1) B) (hB : B = W0.length) (hV : ∀ x ∈ Vp, ¬ isBr x) (hbr : br = 20 ∨ br = 23 ∨ br = 24) (hc : bt t e (lk t e b) = 41) (hQ : ∀ σ', FQ σ σ' → Xs σ' t e (lk t e b + 1) (C ++ Vp ++ brC br) (V ++ W0) o B → cG X x1 Q σ') : cF X x1 Q σ := by
  have hisb : isBr br := by unfold isBr; omega
  unfold cF mw_qGoesOn_0
  intro X0 h0
  refine h0 σ ?_
  rw [h.1.2.2.2.1]
  simp (disch := omega) only [i_0, i_1, i_2, i_3, i_4, i_5, i_6, i_7, i_8, i_9, i_10, i_11, i_12, i_13, i_16, i_19, i_20, i_21, i_22, i_23, i_24, i_25, i_30, i_31, i_32, i_39, i_40, i_41, i_42, i_43, i_44, i_45, i_47, i_48, i_49, i_50, i_51, i_52, i_57, i_59, i_60, i_61, i_62, i_63, i_64, i_71, i_72, i_80, i_91, i_93, i_97, i_99, i_100, i_122, i_227, i_228, i_232, i_251, i_255, i_256, i_463, i_999, i_1000, i_1519, i_1600, i_9999, i_100000000, i_2147483639, i_2147483647, neg_nI1, nI_add, pk_mul, nI_remL, pk_sub, pk_div, nI_clamp, nI_leI, nI_ltI, nI_eq, vpT, nI_m1, m1_nI, nI_lem1, m1_le, m1_lt, nI_ltm1, nI_bit, nI_shl, nI_xor, nI_or, n_rem, forall_eq, true_and, and_true, implies_true, true_implies, false_implies, not_true_eq_false, not_false_eq_true, Nat.zero_add, Nat.add_zero, ite_true, ite_false, if_true, if_false, true_or, or_true, false_or, or_false, and_self, and_false, false_and, Nat.reduceEqDiff, reduceIte]
  have hlk := lk_spec (t := t) h.1.2.2.1
  have hle := h.1.le
  have he := h.1.1.2.1
  refine ml_look h.1 (fun hT => ?_)
  have hX1 := h.tok (FT.at σ _) hT hlk.1
  have hlt : lk t e b < e := by
    unfold bt at hc
    by_cases z : lk t e b < e
    · exact z
    · rw [if_neg z] at hc; omega
  have htb : t (lk t e b) = 41 := by rw [bt_at hlt] at hc; exact hc
  have main : mw_qGoesOn_43 X0 (sI σ 0 2 (nI (lk t e b))) (qK2 X x1 Q) := by
    unfold mw_qGoesOn_43 mw_qDropsToBracket mw_qDropsToBracket_0
    rw [hT.2.1]
    simp (disch := omega) only [i_0, i_1, i_2, i_3, i_4, i_5, i_6, i_7, i_8, i_9, i_10, i_11, i_12, i_13, i_16, i_19, i_20, i_21, i_22, i_23, i_24, i_25, i_30, i_31, i_32, i_39, i_40, i_41, i_42, i_43, i_44, i_45, i_47, i_48, i_49, i_50, i_51, i_52, i_57, i_59, i_60, i_61, i_62, i_63, i_64, i_71, i_72, i_80, i_91, i_93, i_97, i_99, i_100, i_122, i_227, i_228, i_232, i_251, i_255, i_256, i_463, i_999, i_1000, i_1519, i_1600, i_9999, i_100000000, i_2147483639, i_2147483647, neg_nI1, nI_add, pk_mul, nI_remL, pk_sub, pk_div, nI_clamp, nI_leI, nI_ltI, nI_eq, vpT, nI_m1, m1_nI, nI_lem1, m1_le, m1_lt, nI_ltm1, nI_bit, nI_shl, nI_xor, nI_or, n_rem, forall_eq, true_and, and_true, implies_true, true_implies, false_implies, not_true_eq_false, not_false_eq_true, Nat.zero_add, Nat.add_zero, ite_true, ite_false, if_true, if_false, true_or, or_true, false_or, or_false, and_self, and_false, false_and, Nat.reduceEqDiff, reduceIte]
    have hT2 := hT.sign hlt htb (by decide) (by decide)
    have hX2 := hX1.tok (FT.at _ _) hT2 (by omega)
    refine ml_dropsTo hisb hB Vp C _ hX2 hV (fun σ3 hF3 hX3 => ?_)
    have h105 := hX3.2.2.1.1
    have hw := hX3.2.2.1.2
    have ho := hX3.2.2.2.1
    have hl := hX3.2.2.2.2.2
    simp only [List.cons_append, List.length_cons] at h105 hw hl
    have hlen : (C ++ Vp).length ≤ 1600 := by omega
    have e1 : (V ++ W0).length + 1 - 1 = (V ++ W0).length := rfl
    have e2 : o + 1 - 1 = o := rfl
    rw [h105]
    simp (disch := omega) only [i_0, i_1, i_2, i_3, i_4, i_5, i_6, i_7, i_8, i_9, i_10, i_11, i_12, i_13, i_16, i_19, i_20, i_21, i_22, i_23, i_24, i_25, i_30, i_31, i_32, i_39, i_40, i_41, i_42, i_43, i_44, i_45, i_47, i_48, i_49, i_50, i_51, i_52, i_57, i_59, i_60, i_61, i_62, i_63, i_64, i_71, i_72, i_80, i_91, i_93, i_97, i_99, i_100, i_122, i_227, i_228, i_232, i_251, i_255, i_256, i_463, i_999, i_1000, i_1519, i_1600, i_9999, i_100000000, i_2147483639, i_2147483647, neg_nI1, nI_add, pk_mul, nI_remL, pk_sub, pk_div, nI_clamp, nI_leI, nI_ltI, nI_eq, vpT, nI_m1, m1_nI, nI_lem1, m1_le, m1_lt, nI_ltm1, nI_bit, nI_shl, nI_xor, nI_or, n_rem, forall_eq, true_and, and_true, implies_true, true_implies, false_implies, not_true_eq_false, not_false_eq_true, Nat.zero_add, Nat.add_zero, ite_true, ite_false, if_true, if_false, true_or, or_true, false_or, or_false, and_self, and_false, false_and, Nat.reduceEqDiff, reduceIte, e1]
    simp (disch := omega) only [i_0, i_1, i_2, i_3, i_4, i_5, i_6, i_7, i_8, i_9, i_10, i_11, i_12, i_13, i_16, i_19, i_20, i_21, i_22, i_23, i_24, i_25, i_30, i_31, i_32, i_39, i_40, i_41, i_42, i_43, i_44, i_45, i_47, i_48, i_49, i_50, i_51, i_52, i_57, i_59, i_60, i_61, i_62, i_63, i_64, i_71, i_72, i_80, i_91, i_93, i_97, i_99, i_100, i_122, i_227, i_228, i_232, i_251, i_255, i_256, i_463, i_999, i_1000, i_1519, i_1600, i_9999, i_100000000, i_2147483639, i_2147483647, neg_nI1, nI_add, pk_mul, nI_remL, pk_sub, pk_div, nI_clamp, nI_leI, nI_ltI, nI_eq, vpT, nI_m1, m1_nI, nI_lem1, m1_le, m1_lt, nI_ltm1, nI_bit, nI_shl, nI_xor, nI_or, n_rem, forall_eq, true_and, and_true, implies_true, true_implies, false_implies, not_true_eq_false, not_false_eq_true, Nat.zero_add, Nat.add_zero, ite_true, ite_false, if_true, if_false, true_or, or_true, false_or, or_false, and_self, and_false, false_and, Nat.reduceEqDiff, reduceIte, fI_sI, fI_sL, fI_sA, fI_sB, fL_sI, fL_sL, fL_sA, fL_sB, fA_sI, fA_sL, fA_sA, fA_sB, fB_sI, fB_sL, fB_sA, fB_sB]
    rw [ho.1]
    simp (disch := omega) only [i_0, i_1, i_2, i_3, i_4, i_5, i_6, i_7, i_8, i_9, i_10, i_11, i_12, i_13, i_16, i_19, i_20, i_21, i_22, i_23, i_24, i_25, i_30, i_31, i_32, i_39, i_40, i_41, i_42, i_43, i_44, i_45, i_47, i_48, i_49, i_50, i_51, i_52, i_57, i_59, i_60, i_61, i_62, i_63, i_64, i_71, i_72, i_80, i_91, i_93, i_97, i_99, i_100, i_122, i_227, i_228, i_232, i_251, i_255, i_256, i_463, i_999, i_1000, i_1519, i_1600, i_9999, i_100000000, i_2147483639, i_2147483647, neg_nI1, nI_add, pk_mul, nI_remL, pk_sub, pk_div, nI_clamp, nI_leI, nI_ltI, nI_eq, vpT, nI_m1, m1_nI, nI_lem1, m1_le, m1_lt, nI_ltm1, nI_bit, nI_shl, nI_xor, nI_or, n_rem, forall_eq, true_and, and_true, implies_true, true_implies, false_implies, not_true_eq_false, not_false_eq_true, Nat.zero_add, Nat.add_zero, ite_true, ite_false, if_true, if_false, true_or, or_true, false_or, or_false, and_self, and_false, false_and, Nat.reduceEqDiff, reduceIte, fI_sI, fI_sL, fI_sA, fI_sB, fL_sI, fL_sL, fL_sA, fL_sB, fA_sI, fA_sL, fA_sA, fA_sB, fB_sI, fB_sL, fB_sA, fB_sB, e2]
    rw [hw.1]
    have hF5 : FW σ3 (sI (sI σ3 0 105 (nI (V ++ W0).length)) 0 106 (nI o)) := (Fm.sI σ3 _ (by decide)).trans (Fm.sI _ _ (by decide))
    have hX5 : Xr (sI (sI σ3 0 105 (nI (V ++ W0).length)) 0 106 (nI o)) t e (lk t e b + 1) (C ++ Vp) (V ++ W0) o B := ⟨hX3.1.q hF5, hX3.2.1.eqv (by rw [fI_sI, fI_sI]; simp) rfl, ⟨by rw [fI_sI, fI_sI]; simp, hw.2.2⟩, ⟨by rw [fI_sI]; simp, by have := ho.2; omega⟩, by rw [fI_sI, fI_sI]; simpa using hX3.2.2.2.2.1⟩
    have hF6 : FQ σ (sI (sI σ3 0 105 (nI (V ++ W0).length)) 0 106 (nI o)) := (FT.q ((FT.at σ _).trans (FT.at _ _))).trans (hF3.q.trans hF5.q)
    have hx0 : ∀ σ', fI σ' 0 5 = nI 0 → cF X x1 Q σ' → X0 σ' := fun σ' _ hc => hc X0 h0
    have hcode : ∀ c, brC br = [c] → mw_qGoesOn_112 X0 (nI c) (sI (sI σ3 0 105 (nI (V ++ W0).length)) 0 106 (nI o)) (qK2 X x1 Q) := by
      intro c hcc
      unfold mw_qGoesOn_112 mw_qGoesOn_115 mw_qEndsPart
      refine ml_qCode hX5.2.1 (by omega) (fun σ7 hF7 hC7 => hQ σ7 (hF6.trans (hF7.wide (by decide) (by decide) (by decide))) ?_ X0 hx0)
      have hF7' : FW (sI (sI σ3 0 105 (nI (V ++ W0).length)) 0 106 (nI o)) σ7 := hF7.wide (by decide) (by decide) (by decide)
      rw [hcc]
      refine ⟨hX5.1.q hF7', hC7, hX5.2.2.1.eqv (hF7.1 105 (by decide)) (hF7.2.1 104 (by decide)), ⟨by rw [hF7.1 106 (by decide)]; exact hX5.2.2.2.1.1, hX5.2.2.2.1.2⟩, by rw [hF7.1 107 (by decide)]; exact hX5.2.2.2.2, ?_⟩
      rw [List.length_append]; simp; simp at hl; omega
    rcases hbr with rfl | rfl | rfl
    · simp (disch := omega) only [i_0, i_1, i_2, i_3, i_4, i_5, i_6, i_7, i_8, i_9, i_10, i_11, i_12, i_13, i_16, i_19, i_20, i_21, i_22, i_23, i_24, i_25, i_30, i_31, i_32, i_39, i_40, i_41, i_42, i_43, i_44, i_45, i_47, i_48, i_49, i_50, i_51, i_52, i_57, i_59, i_60, i_61, i_62, i_63, i_64, i_71, i_72, i_80, i_91, i_93, i_97, i_99, i_100, i_122, i_227, i_228, i_232, i_251, i_255, i_256, i_463, i_999, i_1000, i_1519, i_1600, i_9999, i_100000000, i_2147483639, i_2147483647, neg_nI1, nI_add, pk_mul, nI_remL, pk_sub, pk_div, nI_clamp, nI_leI, nI_ltI, nI_eq, vpT, nI_m1, m1_nI, nI_lem1, m1_le, m1_lt, nI_ltm1, nI_bit, nI_shl, nI_xor, nI_or, n_rem, forall_eq, true_and, and_true, implies_true, true_implies, false_implies, not_true_eq_false, not_false_eq_true, Nat.zero_add, Nat.add_zero, ite_true, ite_false, if_true, if_false, true_or, or_true, false_or, or_false, and_self, and_false, false_and, Nat.reduceEqDiff, reduceIte]
      unfold mw_qGoesOn_115 mw_qEndsPart
      refine hQ _ hF6 ?_ X0 hx0
      have : brC 20 = [] := rfl
      rw [this, List.append_nil]
      exact hX5.s (by omega)
    · simp (disch := omega) only [i_0, i_1, i_2, i_3, i_4, i_5, i_6, i_7, i_8, i_9, i_10, i_11, i_12, i_13, i_16, i_19, i_20, i_21, i_22, i_23, i_24, i_25, i_30, i_31, i_32, i_39, i_40, i_41, i_42, i_43, i_44, i_45, i_47, i_48, i_49, i_50, i_51, i_52, i_57, i_59, i_60, i_61, i_62, i_63, i_64, i_71, i_72, i_80, i_91, i_93, i_97, i_99, i_100, i_122, i_227, i_228, i_232, i_251, i_255, i_256, i_463, i_999, i_1000, i_1519, i_1600, i_9999, i_100000000, i_2147483639, i_2147483647, neg_nI1, nI_add, pk_mul, nI_remL, pk_sub, pk_div, nI_clamp, nI_leI, nI_ltI, nI_eq, vpT, nI_m1, m1_nI, nI_lem1, m1_le, m1_lt, nI_ltm1, nI_bit, nI_shl, nI_xor, nI_or, n_rem, forall_eq, true_and, and_true, implies_true, true_implies, false_implies, not_true_eq_false, not_false_eq_true, Nat.zero_add, Nat.add_zero, ite_true, ite_false, if_true, if_false, true_or, or_true, false_or, or_false, and_self, and_false, false_and, Nat.reduceEqDiff, reduceIte]
      exact hcode 5 rfl
    · simp (disch := omega) only [i_0, i_1, i_2, i_3, i_4, i_5, i_6, i_7, i_8, i_9, i_10, i_11, i_12, i_13, i_16, i_19, i_20, i_21, i_22, i_23, i_24, i_25, i_30, i_31, i_32, i_39, i_40, i_41, i_42, i_43, i_44, i_45, i_47, i_48, i_49, i_50, i_51, i_52, i_57, i_59, i_60, i_61, i_62, i_63, i_64, i_71, i_72, i_80, i_91, i_93, i_97, i_99, i_100, i_122, i_227, i_228, i_232, i_251, i_255, i_256, i_463, i_999, i_1000, i_1519, i_1600, i_9999, i_100000000, i_2147483639, i_2147483647, neg_nI1, nI_add, pk_mul, nI_remL, pk_sub, pk_div, nI_clamp, nI_leI, nI_ltI, nI_eq, vpT, nI_m1, m1_nI, nI_lem1, m1_le, m1_lt, nI_ltm1, nI_bit, nI_shl, nI_xor, nI_or, n_rem, forall_eq, true_and, and_true, implies_true, true_implies, false_implies, not_true_eq_false, not_false_eq_true, Nat.zero_add, Nat.add_zero, ite_true, ite_false, if_true, if_false, true_or, or_true, false_or, or_false, and_self, and_false, false_and, Nat.reduceEqDiff, reduceIte]
      exact hcode 6 rfl
  simp (disch := omega) only [i_0, i_1, i_2, i_3, i_4, i_5, i_6, i_7, i_8, i_9, i_10, i_11, i_12, i_13, i_16, i_19, i_20, i_21, i_22, i_23, i_24, i_25, i_30, i_31, i_32, i_39, i_40, i_41, i_42, i_43, i_44, i_45, i_47, i_48, i_49, i_50, i_51, i_52, i_57, i_59, i_60, i_61, i_62, i_63, i_64, i_71, i_72, i_80, i_91, i_93, i_97, i_99, i_100, i_122, i_227, i_228, i_232, i_251, i_255, i_256, i_463, i_999, i_1000, i_1519, i_1600, i_9999, i_100000000, i_2147483639, i_2147483647, byI_eq (h.1.1.2.2.2.1 _) (show 41 < 256 by decide)]
  refine ⟨fun z => absurd hc z, fun _ => ml_qBr hX1 hB hV hisb ?_⟩
  rcases hbr with rfl | rfl | rfl
  · exact ⟨fun _ => main, fun z => absurd rfl z⟩
  · refine ⟨fun z => absurd z (by decide), fun _ => ml_qBr hX1 hB hV hisb ⟨fun _ => main, fun z => absurd rfl z⟩⟩
  · refine ⟨fun z => absurd z (by decide), fun _ => ml_qBr hX1 hB hV hisb ⟨fun z => absurd z (by decide), fun _ => ml_qBr hX1 hB hV hisb ⟨fun z => absurd rfl z, fun _ => main⟩⟩⟩
theorem qK2_0 {σ : FS} (h : X x1 (nI 0) σ) : qK2 X x1 Q (nI 0) σ := by
  unfold qK2 mw_qSums_48 mw_qSums_49
  exact ⟨fun _ => h, fun z => absurd rfl z⟩
theorem qK2_1 {σ : FS} (h : X x1 (nI 1) σ) : qK2 X x1 Q (nI 1) σ := by
  unfold qK2 mw_qSums_48 mw_qSums_49
  exact ⟨fun z => absurd z (by decide), fun _ => h⟩
/-- behind a sum in brackets no closing one -/
theorem cF_fail {σ : FS} {b br : Nat} {C Vp V : List Nat} {o : Nat} (h : Xs σ t e b C (Vp ++ br :: V ++ W0) o B) (hB : B = W0.length) (hV : ∀ x ∈ Vp, ¬ isBr x) (hbr : br = 20 ∨ br = 23 ∨ br = 24) (hm : opM (bt t e (lk t e b)) = 0) (hp : opA (bt t e (lk t e b)) = 0) (hc : bt t e (lk t e b) ≠ 41) (hQ : ∀ σ', FQ σ σ' → BdC σ' (1, lk t e b) → X x1 (nI 0) σ') : cF X x1 Q σ := by
  have hisb : isBr br := by unfold isBr; omega
  have hll := lk_lk (t := t) h.1.2.2.1
  refine cF_122 h hc (fun σ1 hF1 hX1 => ?_)
  refine ml_gend (V := Vp ++ br :: V) hX1 hB (by rw [hll]; exact hm) (by rw [hll]; exact hp) (fun σ2 hF2 hX2 V2 hV2 => ⟨fun ee => absurd hisb (hV2 br (by rw [← ee]; simp)), fun b2 Vr2 ee hb2 => ?_⟩)
  rw [← br_one _ _ _ _ _ _ ee hV hV2 hisb hb2]
  refine ⟨fun z => by omega, fun _ σ3 hF3 hB3 => qK2_0 (hQ σ3 (FT.q (hF1.trans hF3)) ?_)⟩
  rw [hll] at hB3; exact hB3.c (hF1.trans hF3) h.2.1 h.cl
/-- behind the first sum of min, max -/
theorem cF_comma {σ : FS} {b br : Nat} {C Vp V : List Nat} {o : Nat} (h : Xs σ t e b C (Vp ++ br :: V ++ W0) o B) (hB : B = W0.length) (hV : ∀ x ∈ Vp, ¬ isBr x) (hbr : br = 21 ∨ br = 22) (hm : opM (bt t e (lk t e b)) = 0) (hp : opA (bt t e (lk t e b)) = 0) (hE : ∀ σ, fI σ 0 5 = nI 0 → cE X x1 Q σ → X x1 (nI 1) σ)
    (ho : ∀ b2, pSign 44 t e (lk t e b) = .inl ((), b2) → ∀ σ', FQ σ σ' → Xs σ' t e b2 (C ++ Vp) ((br + 2) :: V ++ W0) o B → cE X x1 Q σ') (hQ : ∀ q, pSign 44 t e (lk t e b) = .inr q → ∀ σ', FQ σ σ' → BdC σ' q → X x1 (nI 0) σ') : cF X x1 Q σ := by
  have hisb : isBr br := by unfold isBr; omega
  have hll := lk_lk (t := t) h.1.2.2.1
  have hle := h.1.le
  have he := h.1.1.2.1
  have hg : ∀ σ', FT σ σ' → Xs σ' t e (lk t e b) C (Vp ++ br :: V ++ W0) o B → mw_qGoesOn_122 σ' (qK2 X x1 Q) := by
    intro σ1 hF1 hX1
    refine ml_gend (V := Vp ++ br :: V) hX1 hB (by rw [hll]; exact hm) (by rw [hll]; exact hp) (fun σ2 hF2 hX2 V2 hV2 => ⟨fun ee => absurd hisb (hV2 br (by rw [← ee]; simp)), fun b2 Vr2 ee hb2 => ?_⟩)
    rw [← br_one _ _ _ _ _ _ ee hV hV2 hisb hb2]
    refine ⟨fun _ => ?_, fun z => absurd hbr z⟩
    rw [hll] at hX2
    unfold mw_qGoesOn_326
    refine ml_asksSign (c := 44) hX2.1 (by decide) (by decide) (by decide) (fun b3 σ3 hp3 hF3 hT3 => ?_) (fun q σ3 hp3 hF3 hB3 => ?_)
    · have hb3 : lk t e b < b3 := by
        unfold pSign at hp3
        rw [hll] at hp3
        split at hp3
        · cases hp3; omega
        · cases hp3
      have hX3 := hX2.tok hF3 hT3 (by omega)
      rw [hT3.2.2.2.1]
      simp (disch := omega) only [i_0, i_1, i_2, i_3, i_4, i_5, i_6, i_7, i_8, i_9, i_10, i_11, i_12, i_13, i_16, i_19, i_20, i_21, i_22, i_23, i_24, i_25, i_30, i_31, i_32, i_39, i_40, i_41, i_42, i_43, i_44, i_45, i_47, i_48, i_49, i_50, i_51, i_52, i_57, i_59, i_60, i_61, i_62, i_63, i_64, i_71, i_72, i_80, i_91, i_93, i_97, i_99, i_100, i_122, i_227, i_228, i_232, i_251, i_255, i_256, i_463, i_999, i_1000, i_1519, i_1600, i_9999, i_100000000, i_2147483639, i_2147483647, neg_nI1, nI_add, pk_mul, nI_remL, pk_sub, pk_div, nI_clamp, nI_leI, nI_ltI, nI_eq, vpT, nI_m1, m1_nI, nI_lem1, m1_le, m1_lt, nI_ltm1, nI_bit, nI_shl, nI_xor, nI_or, n_rem, forall_eq, true_and, and_true, implies_true, true_implies, false_implies, not_true_eq_false, not_false_eq_true, Nat.zero_add, Nat.add_zero, ite_true, ite_false, if_true, if_false, true_or, or_true, false_or, or_false, and_self, and_false, false_and, Nat.reduceEqDiff, reduceIte]
      unfold mw_qDropsToBracket mw_qDropsToBracket_0
      refine ml_dropsTo hisb hB Vp C _ hX3 hV (fun σ4 hF4 hX4 => ?_)
      have h105 := hX4.2.2.1.1
      have hw := hX4.2.2.1.2
      have hl := hX4.2.2.2.2.2
      have hle3 := hT3.le
      simp only [List.cons_append, List.length_cons] at h105 hw hl
      have e1 : (V ++ W0).length + 1 - 1 = (V ++ W0).length := rfl
      rw [h105]
      simp (disch := omega) only [i_0, i_1, i_2, i_3, i_4, i_5, i_6, i_7, i_8, i_9, i_10, i_11, i_12, i_13, i_16, i_19, i_20, i_21, i_22, i_23, i_24, i_25, i_30, i_31, i_32, i_39, i_40, i_41, i_42, i_43, i_44, i_45, i_47, i_48, i_49, i_50, i_51, i_52, i_57, i_59, i_60, i_61, i_62, i_63, i_64, i_71, i_72, i_80, i_91, i_93, i_97, i_99, i_100, i_122, i_227, i_228, i_232, i_251, i_255, i_256, i_463, i_999, i_1000, i_1519, i_1600, i_9999, i_100000000, i_2147483639, i_2147483647, neg_nI1, nI_add, pk_mul, nI_remL, pk_sub, pk_div, nI_clamp, nI_leI, nI_ltI, nI_eq, vpT, nI_m1, m1_nI, nI_lem1, m1_le, m1_lt, nI_ltm1, nI_bit, nI_shl, nI_xor, nI_or, n_rem, forall_eq, true_and, and_true, implies_true, true_implies, false_implies, not_true_eq_false, not_false_eq_true, Nat.zero_add, Nat.add_zero, ite_true, ite_false, if_true, if_false, true_or, or_true, false_or, or_false, and_self, and_false, false_and, Nat.reduceEqDiff, reduceIte, e1]
      rw [hw.1, nI_add]
      refine qK2_1 (hE _ ?_ ?_)
      · rw [fI_sA]; exact hX4.1.2.2.2.1
      · have hF5 : FW σ4 (sA σ4 104 (V ++ W0).length (nI (br + 2))) := Fm.sA σ4 _ _ (by decide)
        refine ho b3 hp3 _ ((FT.q (hF1.trans (hF2.trans hF3))).trans (hF4.q.trans hF5.q)) ⟨hX4.1.q hF5, hX4.2.1.eqv (by rw [fI_sA]) (by funext i; rw [fA_sA, if_neg (by omega)]), ⟨by rw [fI_sA]; simp [h105], ?_, by omega, wl_eq (W := V ++ W0) hw.2.2 (fun i hi => by rw [fA_sA, if_neg (by omega)])⟩, ⟨by rw [fI_sA]; exact hX4.2.2.2.1.1, hX4.2.2.2.1.2⟩, by rw [fI_sA]; exact hX4.2.2.2.2.1, by simp at hl ⊢; omega⟩
        show fA _ 104 (V ++ W0).length = _
        rw [fA_sA, if_pos ⟨rfl, rfl⟩]
    · have hn0 := hB3.ne
      exact ⟨fun z => absurd z hn0, fun _ => qK2_0 (hQ q hp3 σ3 (FT.q (hF1.trans (hF2.trans hF3))) (hB3.c (hF1.trans (hF2.trans hF3)) h.2.1 h.cl))⟩
  by_cases hc : bt t e (lk t e b) = 41
  · refine cF_41 h (fun σ' hF' hX' => ⟨nI br, fun QQ hq => ml_qBr hX' hB hV hisb hq, ?_, ?_, ?_, hg σ' hF' hX'⟩) <;> rcases hbr with rfl | rfl <;> decide
  · exact cF_122 h hc hg
/-- the sum ends -/
theorem cF_end {σ : FS} {b : Nat} {C Vp : List Nat} {o : Nat} (h : Xs σ t e b C (Vp ++ W0) o B) (hB : B = W0.length) (hV : ∀ x ∈ Vp, ¬ isBr x) (hm : opM (bt t e (lk t e b)) = 0) (hp : opA (bt t e (lk t e b)) = 0) (hQ : ∀ σ', FQ σ σ' → Xs σ' t e (lk t e b) C (Vp ++ W0) o B → X x1 (nI 0) σ') : cF X x1 Q σ := by
  have hll := lk_lk (t := t) h.1.2.2.1
  have hg : ∀ σ', FT σ σ' → Xs σ' t e (lk t e b) C (Vp ++ W0) o B → mw_qGoesOn_122 σ' (qK2 X x1 Q) := by
    intro σ1 hF1 hX1
    refine ml_gend (V := Vp) hX1 hB (by rw [hll]; exact hm) (by rw [hll]; exact hp) (fun σ2 hF2 hX2 V2 hV2 => ⟨fun ee => ?_, fun b2 Vr2 ee hb2 => absurd hb2 (hV b2 (by rw [ee]; simp))⟩)
    rw [hll] at hX2
    exact qK2_0 (hQ σ2 (FT.q (hF1.trans hF2)) hX2)
  by_cases hc : bt t e (lk t e b) = 41
  · exact cF_41 h (fun σ' hF' hX' => ⟨M1, fun QQ hq => ml_qBr0 hX' hB hV hq, by decide, by decide, by decide, hg σ' hF' hX'⟩)
  · exact cF_122 h hc hg
end
