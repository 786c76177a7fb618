/-! THE REFERENCE: reading of sums, step by step -/
def alK (k : Nat) : Nat → Bool := if k = 0 then al0 else if k = 1 then al1 else al2
theorem ml_isAllowed {σ : FS} {kd k : Nat} {Q : Int32 → FS → Prop} (h : fI σ 0 51 = nI kd) (hk : kd < 3) (hkk : k < 11) (hQ : Q (nI (if alK kd k = true then 1 else 0)) σ) : mw_isAllowed (nI k) σ Q := by
  unfold mw_isAllowed
  rw [h]
  simp (disch := omega) only [i_0, i_1, i_2, i_3, i_4, i_5, i_6, i_7, i_8, i_9, i_10, i_11, i_12, i_13, i_16, i_19, i_20, i_21, i_22, i_23, i_24, i_25, i_30, i_31, i_32, i_39, i_40, i_41, i_42, i_43, i_44, i_45, i_47, i_48, i_49, i_50, i_51, i_52, i_57, i_59, i_60, i_61, i_62, i_63, i_64, i_71, i_72, i_80, i_91, i_93, i_97, i_99, i_100, i_122, i_227, i_228, i_232, i_251, i_255, i_256, i_463, i_999, i_1000, i_1519, i_1600, i_9999, i_100000000, i_2147483639, i_2147483647, neg_nI1, nI_add, pk_mul, nI_remL, pk_sub, pk_div, nI_clamp, nI_leI, nI_ltI, nI_eq, vpT, nI_m1, m1_nI, nI_lem1, m1_le, m1_lt, nI_ltm1, nI_bit, nI_shl, nI_xor, nI_or, n_rem, forall_eq, true_and, and_true, implies_true, true_implies, false_implies, not_true_eq_false, not_false_eq_true, Nat.zero_add, Nat.add_zero, ite_true, ite_false, if_true, if_false, true_or, or_true, false_or, or_false, and_self, and_false, false_and, Nat.reduceEqDiff, reduceIte]
  have hkd : kd = 0 ∨ kd = 1 ∨ kd = 2 := by omega
  rcases hkd with rfl | rfl | rfl
  · simp only [alK, al0, if_true, decide_eq_true_iff] at hQ
    refine ⟨fun z => absurd rfl z, fun _ => ⟨fun z => ?_, fun z => ?_⟩⟩
    · rw [if_neg (by omega)] at hQ; exact hQ
    · rw [if_pos (by omega)] at hQ; exact hQ
  · simp only [alK, al1, Nat.one_ne_zero, if_false, if_true, decide_eq_true_iff] at hQ
    refine ⟨fun _ => ⟨fun z => absurd rfl z, fun _ => ⟨fun z => ?_, fun z => ?_⟩⟩, fun z => by omega⟩
    · rw [if_neg (by omega)] at hQ; exact hQ
    · rw [if_pos (by omega)] at hQ; exact hQ
  · have e : alK 2 k = al2 k := rfl
    rw [e] at hQ
    simp only [al2, decide_eq_true_iff] at hQ
    refine ⟨fun _ => ⟨fun _ => ⟨fun z => ?_, fun z => ⟨fun z2 => ?_, fun z2 => ?_⟩⟩, fun z => by omega⟩, fun z => by omega⟩
    · rw [if_pos (by omega)] at hQ; exact hQ
    · rw [if_neg (by omega)] at hQ; exact hQ
    · rw [if_pos (by omega)] at hQ; exact hQ
/-- which word is here; 11 none -/
def wHere (t : Nat → Nat) (e b : Nat) : Nat := if isLt (bt t e b) = true ∧ prt t b = false then wIx (wd t b (wE t e b)) else 11
theorem wIx_le (w : List Nat) : wIx w ≤ 11 := by
  unfold wIx
  simp only [List.range, List.range.loop, List.foldr]
  repeat' split
  all_goals omega
theorem wIx_0 {w : List Nat}  (h : str 91 = w) : wIx w = 0 := by
  unfold wIx
  simp only [List.range, List.range.loop, List.foldr]
  rw [if_pos h]
theorem wIx_1 {w : List Nat} (n0 : ¬ str 91 = w) (h : str 92 = w) : wIx w = 1 := by
  unfold wIx
  simp only [List.range, List.range.loop, List.foldr]
  rw [if_neg n0, if_pos h]
theorem wIx_2 {w : List Nat} (n0 : ¬ str 91 = w) (n1 : ¬ str 92 = w) (h : str 93 = w) : wIx w = 2 := by
  unfold wIx
  simp only [List.range, List.range.loop, List.foldr]
  rw [if_neg n0, if_neg n1, if_pos h]
theorem wIx_3 {w : List Nat} (n0 : ¬ str 91 = w) (n1 : ¬ str 92 = w) (n2 : ¬ str 93 = w) (h : str 94 = w) : wIx w = 3 := by
  unfold wIx
  simp only [List.range, List.range.loop, List.foldr]
  rw [if_neg n0, if_neg n1, if_neg n2, if_pos h]
theorem wIx_4 {w : List Nat} (n0 : ¬ str 91 = w) (n1 : ¬ str 92 = w) (n2 : ¬ str 93 = w) (n3 : ¬ str 94 = w) (h : str 95 = w) : wIx w = 4 := by
  unfold wIx
  simp only [List.range, List.range.loop, List.foldr]
  rw [if_neg n0, if_neg n1, if_neg n2, if_neg n3, if_pos h]
theorem wIx_5 {w : List Nat} (n0 : ¬ str 91 = w) (n1 : ¬ str 92 = w) (n2 : ¬ str 93 = w) (n3 : ¬ str 94 = w) (n4 : ¬ str 95 = w) (h : str 96 = w) : wIx w = 5 := by
  unfold wIx
  simp only [List.range, List.range.loop, List.foldr]
  rw [if_neg n0, if_neg n1, if_neg n2, if_neg n3, if_neg n4, if_pos h]
theorem wIx_6 {w : List Nat} (n0 : ¬ str 91 = w) (n1 : ¬ str 92 = w) (n2 : ¬ str 93 = w) (n3 : ¬ str 94 = w) (n4 : ¬ str 95 = w) (n5 : ¬ str 96 = w) (h : str 97 = w) : wIx w = 6 := by
  unfold wIx
  simp only [List.range, List.range.loop, List.foldr]
  rw [if_neg n0, if_neg n1, if_neg n2, if_neg n3, if_neg n4, if_neg n5, if_pos h]
theorem wIx_7 {w : List Nat} (n0 : ¬ str 91 = w) (n1 : ¬ str 92 = w) (n2 : ¬ str 93 = w) (n3 : ¬ str 94 = w) (n4 : ¬ str 95 = w) (n5 : ¬ str 96 = w) (n6 : ¬ str 97 = w) (h : str 98 = w) : wIx w = 7 := by
  unfold wIx
  simp only [List.range, List.range.loop, List.foldr]
  rw [if_neg n0, if_neg n1, if_neg n2, if_neg n3, if_neg n4, if_neg n5, if_neg n6, if_pos h]
theorem wIx_8 {w : List Nat} (n0 : ¬ str 91 = w) (n1 : ¬ str 92 = w) (n2 : ¬ str 93 = w) (n3 : ¬ str 94 = w) (n4 : ¬ str 95 = w) (n5 : ¬ str 96 = w) (n6 : ¬ str 97 = w) (n7 : ¬ str 98 = w) (h : str 99 = w) : wIx w = 8 := by
  unfold wIx
  simp only [List.range, List.range.loop, List.foldr]
  rw [if_neg n0, if_neg n1, if_neg n2, if_neg n3, if_neg n4, if_neg n5, if_neg n6, if_neg n7, if_pos h]
theorem wIx_9 {w : List Nat} (n0 : ¬ str 91 = w) (n1 : ¬ str 92 = w) (n2 : ¬ str 93 = w) (n3 : ¬ str 94 = w) (n4 : ¬ str 95 = w) (n5 : ¬ str 96 = w) (n6 : ¬ str 97 = w) (n7 : ¬ str 98 = w) (n8 : ¬ str 99 = w) (h : str 100 = w) : wIx w = 9 := by
  unfold wIx
  simp only [List.range, List.range.loop, List.foldr]
  rw [if_neg n0, if_neg n1, if_neg n2, if_neg n3, if_neg n4, if_neg n5, if_neg n6, if_neg n7, if_neg n8, if_pos h]
theorem wIx_10 {w : List Nat} (n0 : ¬ str 91 = w) (n1 : ¬ str 92 = w) (n2 : ¬ str 93 = w) (n3 : ¬ str 94 = w) (n4 : ¬ str 95 = w) (n5 : ¬ str 96 = w) (n6 : ¬ str 97 = w) (n7 : ¬ str 98 = w) (n8 : ¬ str 99 = w) (n9 : ¬ str 100 = w) (h : str 101 = w) : wIx w = 10 := by
  unfold wIx
  simp only [List.range, List.range.loop, List.foldr]
  rw [if_neg n0, if_neg n1, if_neg n2, if_neg n3, if_neg n4, if_neg n5, if_neg n6, if_neg n7, if_neg n8, if_neg n9, if_pos h]
theorem wIx_no {w : List Nat} (n0 : ¬ str 91 = w) (n1 : ¬ str 92 = w) (n2 : ¬ str 93 = w) (n3 : ¬ str 94 = w) (n4 : ¬ str 95 = w) (n5 : ¬ str 96 = w) (n6 : ¬ str 97 = w) (n7 : ¬ str 98 = w) (n8 : ¬ str 99 = w) (n9 : ¬ str 100 = w) (n10 : ¬ str 101 = w) : wIx w = 11 := by
  unfold wIx
  simp only [List.range, List.range.loop, List.foldr]
  rw [if_neg n0, if_neg n1, if_neg n2, if_neg n3, if_neg n4, if_neg n5, if_neg n6, if_neg n7, if_neg n8, if_neg n9, if_neg n10]
theorem ml_qWordHere {σ : FS} {t : Nat → Nat} {e b : Nat} {Q : Int32 → FS → Prop} (h : Tok σ t e b) (hb : lk t e b = b) (hQ : Q (if wHere t e b < 11 then nI (wHere t e b) else M1) σ) : mw_qWordHere σ Q := by
  unfold mw_qWordHere
  refine ml_is1 (k := 91) h hb (by unfold mok; decide) (by decide) (by decide) (fun w => ?_) (fun n0 => ?_)
  · have e : wHere t e b = 0 := by unfold wHere; rw [if_pos ⟨w.1, w.2.1⟩]; exact wIx_0  w.2.2.symm
    rw [e, if_pos (by decide)] at hQ
    simp (disch := omega) only [i_0, i_1, i_2, i_3, i_4, i_5, i_6, i_7, i_8, i_9, i_10, i_11, i_12, i_13, i_16, i_19, i_20, i_21, i_22, i_23, i_24, i_25, i_30, i_31, i_32, i_39, i_40, i_41, i_42, i_43, i_44, i_45, i_47, i_48, i_49, i_50, i_51, i_52, i_57, i_59, i_60, i_61, i_62, i_63, i_64, i_71, i_72, i_80, i_91, i_93, i_97, i_99, i_100, i_122, i_227, i_228, i_232, i_251, i_255, i_256, i_463, i_999, i_1000, i_1519, i_1600, i_9999, i_100000000, i_2147483639, i_2147483647, neg_nI1, nI_add, pk_mul, nI_remL, pk_sub, pk_div, nI_clamp, nI_leI, nI_ltI, nI_eq, vpT, nI_m1, m1_nI, nI_lem1, m1_le, m1_lt, nI_ltm1, nI_bit, nI_shl, nI_xor, nI_or, n_rem, forall_eq, true_and, and_true, implies_true, true_implies, false_implies, not_true_eq_false, not_false_eq_true, Nat.zero_add, Nat.add_zero, ite_true, ite_false, if_true, if_false, true_or, or_true, false_or, or_false, and_self, and_false, false_and, Nat.reduceEqDiff, reduceIte]
    exact hQ
  simp (disch := omega) only [i_0, i_1, i_2, i_3, i_4, i_5, i_6, i_7, i_8, i_9, i_10, i_11, i_12, i_13, i_16, i_19, i_20, i_21, i_22, i_23, i_24, i_25, i_30, i_31, i_32, i_39, i_40, i_41, i_42, i_43, i_44, i_45, i_47, i_48, i_49, i_50, i_51, i_52, i_57, i_59, i_60, i_61, i_62, i_63, i_64, i_71, i_72, i_80, i_91, i_93, i_97, i_99, i_100, i_122, i_227, i_228, i_232, i_251, i_255, i_256, i_463, i_999, i_1000, i_1519, i_1600, i_9999, i_100000000, i_2147483639, i_2147483647, neg_nI1, nI_add, pk_mul, nI_remL, pk_sub, pk_div, nI_clamp, nI_leI, nI_ltI, nI_eq, vpT, nI_m1, m1_nI, nI_lem1, m1_le, m1_lt, nI_ltm1, nI_bit, nI_shl, nI_xor, nI_or, n_rem, forall_eq, true_and, and_true, implies_true, true_implies, false_implies, not_true_eq_false, not_false_eq_true, Nat.zero_add, Nat.add_zero, ite_true, ite_false, if_true, if_false, true_or, or_true, false_or, or_false, and_self, and_false, false_and, Nat.reduceEqDiff, reduceIte]
  refine ml_is1 (k := 92) h hb (by unfold mok; decide) (by decide) (by decide) (fun w => ?_) (fun n1 => ?_)
  · have e : wHere t e b = 1 := by unfold wHere; rw [if_pos ⟨w.1, w.2.1⟩]; exact wIx_1 (fun q => n0 ⟨w.1, w.2.1, q.symm⟩) w.2.2.symm
    rw [e, if_pos (by decide)] at hQ
    simp (disch := omega) only [i_0, i_1, i_2, i_3, i_4, i_5, i_6, i_7, i_8, i_9, i_10, i_11, i_12, i_13, i_16, i_19, i_20, i_21, i_22, i_23, i_24, i_25, i_30, i_31, i_32, i_39, i_40, i_41, i_42, i_43, i_44, i_45, i_47, i_48, i_49, i_50, i_51, i_52, i_57, i_59, i_60, i_61, i_62, i_63, i_64, i_71, i_72, i_80, i_91, i_93, i_97, i_99, i_100, i_122, i_227, i_228, i_232, i_251, i_255, i_256, i_463, i_999, i_1000, i_1519, i_1600, i_9999, i_100000000, i_2147483639, i_2147483647, neg_nI1, nI_add, pk_mul, nI_remL, pk_sub, pk_div, nI_clamp, nI_leI, nI_ltI, nI_eq, vpT, nI_m1, m1_nI, nI_lem1, m1_le, m1_lt, nI_ltm1, nI_bit, nI_shl, nI_xor, nI_or, n_rem, forall_eq, true_and, and_true, implies_true, true_implies, false_implies, not_true_eq_false, not_false_eq_true, Nat.zero_add, Nat.add_zero, ite_true, ite_false, if_true, if_false, true_or, or_true, false_or, or_false, and_self, and_false, false_and, Nat.reduceEqDiff, reduceIte]
    exact hQ
  simp (disch := omega) only [i_0, i_1, i_2, i_3, i_4, i_5, i_6, i_7, i_8, i_9, i_10, i_11, i_12, i_13, i_16, i_19, i_20, i_21, i_22, i_23, i_24, i_25, i_30, i_31, i_32, i_39, i_40, i_41, i_42, i_43, i_44, i_45, i_47, i_48, i_49, i_50, i_51, i_52, i_57, i_59, i_60, i_61, i_62, i_63, i_64, i_71, i_72, i_80, i_91, i_93, i_97, i_99, i_100, i_122, i_227, i_228, i_232, i_251, i_255, i_256, i_463, i_999, i_1000, i_1519, i_1600, i_9999, i_100000000, i_2147483639, i_2147483647, neg_nI1, nI_add, pk_mul, nI_remL, pk_sub, pk_div, nI_clamp, nI_leI, nI_ltI, nI_eq, vpT, nI_m1, m1_nI, nI_lem1, m1_le, m1_lt, nI_ltm1, nI_bit, nI_shl, nI_xor, nI_or, n_rem, forall_eq, true_and, and_true, implies_true, true_implies, false_implies, not_true_eq_false, not_false_eq_true, Nat.zero_add, Nat.add_zero, ite_true, ite_false, if_true, if_false, true_or, or_true, false_or, or_false, and_self, and_false, false_and, Nat.reduceEqDiff, reduceIte]
  refine ml_is1 (k := 93) h hb (by unfold mok; decide) (by decide) (by decide) (fun w => ?_) (fun n2 => ?_)
  · have e : wHere t e b = 2 := by unfold wHere; rw [if_pos ⟨w.1, w.2.1⟩]; exact wIx_2 (fun q => n0 ⟨w.1, w.2.1, q.symm⟩) (fun q => n1 ⟨w.1, w.2.1, q.symm⟩) w.2.2.symm
    rw [e, if_pos (by decide)] at hQ
    simp (disch := omega) only [i_0, i_1, i_2, i_3, i_4, i_5, i_6, i_7, i_8, i_9, i_10, i_11, i_12, i_13, i_16, i_19, i_20, i_21, i_22, i_23, i_24, i_25, i_30, i_31, i_32, i_39, i_40, i_41, i_42, i_43, i_44, i_45, i_47, i_48, i_49, i_50, i_51, i_52, i_57, i_59, i_60, i_61, i_62, i_63, i_64, i_71, i_72, i_80, i_91, i_93, i_97, i_99, i_100, i_122, i_227, i_228, i_232, i_251, i_255, i_256, i_463, i_999, i_1000, i_1519, i_1600, i_9999, i_100000000, i_2147483639, i_2147483647, neg_nI1, nI_add, pk_mul, nI_remL, pk_sub, pk_div, nI_clamp, nI_leI, nI_ltI, nI_eq, vpT, nI_m1, m1_nI, nI_lem1, m1_le, m1_lt, nI_ltm1, nI_bit, nI_shl, nI_xor, nI_or, n_rem, forall_eq, true_and, and_true, implies_true, true_implies, false_implies, not_true_eq_false, not_false_eq_true, Nat.zero_add, Nat.add_zero, ite_true, ite_false, if_true, if_false, true_or, or_true, false_or, or_false, and_self, and_false, false_and, Nat.reduceEqDiff, reduceIte]
    exact hQ
  simp (disch := omega) only [i_0, i_1, i_2, i_3, i_4, i_5, i_6, i_7, i_8, i_9, i_10, i_11, i_12, i_13, i_16, i_19, i_20, i_21, i_22, i_23, i_24, i_25, i_30, i_31, i_32, i_39, i_40, i_41, i_42, i_43, i_44, i_45, i_47, i_48, i_49, i_50, i_51, i_52, i_57, i_59, i_60, i_61, i_62, i_63, i_64, i_71, i_72, i_80, i_91, i_93, i_97, i_99, i_100, i_122, i_227, i_228, i_232, i_251, i_255, i_256, i_463, i_999, i_1000, i_1519, i_1600, i_9999, i_100000000, i_2147483639, i_2147483647, neg_nI1, nI_add, pk_mul, nI_remL, pk_sub, pk_div, nI_clamp, nI_leI, nI_ltI, nI_eq, vpT, nI_m1, m1_nI, nI_lem1, m1_le, m1_lt, nI_ltm1, nI_bit, nI_shl, nI_xor, nI_or, n_rem, forall_eq, true_and, and_true, implies_true, true_implies, false_implies, not_true_eq_false, not_false_eq_true, Nat.zero_add, Nat.add_zero, ite_true, ite_false, if_true, if_false, true_or, or_true, false_or, or_false, and_self, and_false, false_and, Nat.reduceEqDiff, reduceIte]
  refine ml_is1 (k := 94) h hb (by unfold mok; decide) (by decide) (by decide) (fun w => ?_) (fun n3 => ?_)
  · have e : wHere t e b = 3 := by unfold wHere; rw [if_pos ⟨w.1, w.2.1⟩]; exact wIx_3 (fun q => n0 ⟨w.1, w.2.1, q.symm⟩) (fun q => n1 ⟨w.1, w.2.1, q.symm⟩) (fun q => n2 ⟨w.1, w.2.1, q.symm⟩) w.2.2.symm
    rw [e, if_pos (by decide)] at hQ
    simp (disch := omega) only [i_0, i_1, i_2, i_3, i_4, i_5, i_6, i_7, i_8, i_9, i_10, i_11, i_12, i_13, i_16, i_19, i_20, i_21, i_22, i_23, i_24, i_25, i_30, i_31, i_32, i_39, i_40, i_41, i_42, i_43, i_44, i_45, i_47, i_48, i_49, i_50, i_51, i_52, i_57, i_59, i_60, i_61, i_62, i_63, i_64, i_71, i_72, i_80, i_91, i_93, i_97, i_99, i_100, i_122, i_227, i_228, i_232, i_251, i_255, i_256, i_463, i_999, i_1000, i_1519, i_1600, i_9999, i_100000000, i_2147483639, i_2147483647, neg_nI1, nI_add, pk_mul, nI_remL, pk_sub, pk_div, nI_clamp, nI_leI, nI_ltI, nI_eq, vpT, nI_m1, m1_nI, nI_lem1, m1_le, m1_lt, nI_ltm1, nI_bit, nI_shl, nI_xor, nI_or, n_rem, forall_eq, true_and, and_true, implies_true, true_implies, false_implies, not_true_eq_false, not_false_eq_true, Nat.zero_add, Nat.add_zero, ite_true, ite_false, if_true, if_false, true_or, or_true, false_or, or_false, and_self, and_false, false_and, Nat.reduceEqDiff, reduceIte]
    exact hQ
  simp (disch := omega) only [i_0, i_1, i_2, i_3, i_4, i_5, i_6, i_7, i_8, i_9, i_10, i_11, i_12, i_13, i_16, i_19, i_20, i_21, i_22, i_23, i_24, i_25, i_30, i_31, i_32, i_39, i_40, i_41, i_42, i_43, i_44, i_45, i_47, i_48, i_49, i_50, i_51, i_52, i_57, i_59, i_60, i_61, i_62, i_63, i_64, i_71, i_72, i_80, i_91, i_93, i_97, i_99, i_100, i_122, i_227, i_228, i_232, i_251, i_255, i_256, i_463, i_999, i_1000, i_1519, i_1600, i_9999, i_100000000, i_2147483639, i_2147483647, neg_nI1, nI_add, pk_mul, nI_remL, pk_sub, pk_div, nI_clamp, nI_leI, nI_ltI, nI_eq, vpT, nI_m1, m1_nI, nI_lem1, m1_le, m1_lt, nI_ltm1, nI_bit, nI_shl, nI_xor, nI_or, n_rem, forall_eq, true_and, and_true, implies_true, true_implies, false_implies, not_true_eq_false, not_false_eq_true, Nat.zero_add, Nat.add_zero, ite_true, ite_false, if_true, if_false, true_or, or_true, false_or, or_false, and_self, and_false, false_and, Nat.reduceEqDiff, reduceIte]
  refine ml_is1 (k := 95) h hb (by unfold mok; decide) (by decide) (by decide) (fun w => ?_) (fun n4 => ?_)
  · have e : wHere t e b = 4 := by unfold wHere; rw [if_pos ⟨w.1, w.2.1⟩]; exact wIx_4 (fun q => n0 ⟨w.1, w.2.1, q.symm⟩) (fun q => n1 ⟨w.1, w.2.1, q.symm⟩) (fun q => n2 ⟨w.1, w.2.1, q.symm⟩) (fun q => n3 ⟨w.1, w.2.1, q.symm⟩) w.2.2.symm
    rw [e, if_pos (by decide)] at hQ
    simp (disch := omega) only [i_0, i_1, i_2, i_3, i_4, i_5, i_6, i_7, i_8, i_9, i_10, i_11, i_12, i_13, i_16, i_19, i_20, i_21, i_22, i_23, i_24, i_25, i_30, i_31, i_32, i_39, i_40, i_41, i_42, i_43, i_44, i_45, i_47, i_48, i_49, i_50, i_51, i_52, i_57, i_59, i_60, i_61, i_62, i_63, i_64, i_71, i_72, i_80, i_91, i_93, i_97, i_99, i_100, i_122, i_227, i_228, i_232, i_251, i_255, i_256, i_463, i_999, i_1000, i_1519, i_1600, i_9999, i_100000000, i_2147483639, i_2147483647, neg_nI1, nI_add, pk_mul, nI_remL, pk_sub, pk_div, nI_clamp, nI_leI, nI_ltI, nI_eq, vpT, nI_m1, m1_nI, nI_lem1, m1_le, m1_lt, nI_ltm1, nI_bit, nI_shl, nI_xor, nI_or, n_rem, forall_eq, true_and, and_true, implies_true, true_implies, false_implies, not_true_eq_false, not_false_eq_true, Nat.zero_add, Nat.add_zero, ite_true, ite_false, if_true, if_false, true_or, or_true, false_or, or_false, and_self, and_false, false_and, Nat.reduceEqDiff, reduceIte]
    exact hQ
  simp (disch := omega) only [i_0, i_1, i_2, i_3, i_4, i_5, i_6, i_7, i_8, i_9, i_10, i_11, i_12, i_13, i_16, i_19, i_20, i_21, i_22, i_23, i_24, i_25, i_30, i_31, i_32, i_39, i_40, i_41, i_42, i_43, i_44, i_45, i_47, i_48, i_49, i_50, i_51, i_52, i_57, i_59, i_60, i_61, i_62, i_63, i_64, i_71, i_72, i_80, i_91, i_93, i_97, i_99, i_100, i_122, i_227, i_228, i_232, i_251, i_255, i_256, i_463, i_999, i_1000, i_1519, i_1600, i_9999, i_100000000, i_2147483639, i_2147483647, neg_nI1, nI_add, pk_mul, nI_remL, pk_sub, pk_div, nI_clamp, nI_leI, nI_ltI, nI_eq, vpT, nI_m1, m1_nI, nI_lem1, m1_le, m1_lt, nI_ltm1, nI_bit, nI_shl, nI_xor, nI_or, n_rem, forall_eq, true_and, and_true, implies_true, true_implies, false_implies, not_true_eq_false, not_false_eq_true, Nat.zero_add, Nat.add_zero, ite_true, ite_false, if_true, if_false, true_or, or_true, false_or, or_false, and_self, and_false, false_and, Nat.reduceEqDiff, reduceIte]
  refine ml_is1 (k := 96) h hb (by unfold mok; decide) (by decide) (by decide) (fun w => ?_) (fun n5 => ?_)
  · have e : wHere t e b = 5 := by unfold wHere; rw [if_pos ⟨w.1, w.2.1⟩]; exact wIx_5 (fun q => n0 ⟨w.1, w.2.1, q.symm⟩) (fun q => n1 ⟨w.1, w.2.1, q.symm⟩) (fun q => n2 ⟨w.1, w.2.1, q.symm⟩) (fun q => n3 ⟨w.1, w.2.1, q.symm⟩) (fun q => n4 ⟨w.1, w.2.1, q.symm⟩) w.2.2.symm
    rw [e, if_pos (by decide)] at hQ
    simp (disch := omega) only [i_0, i_1, i_2, i_3, i_4, i_5, i_6, i_7, i_8, i_9, i_10, i_11, i_12, i_13, i_16, i_19, i_20, i_21, i_22, i_23, i_24, i_25, i_30, i_31, i_32, i_39, i_40, i_41, i_42, i_43, i_44, i_45, i_47, i_48, i_49, i_50, i_51, i_52, i_57, i_59, i_60, i_61, i_62, i_63, i_64, i_71, i_72, i_80, i_91, i_93, i_97, i_99, i_100, i_122, i_227, i_228, i_232, i_251, i_255, i_256, i_463, i_999, i_1000, i_1519, i_1600, i_9999, i_100000000, i_2147483639, i_2147483647, neg_nI1, nI_add, pk_mul, nI_remL, pk_sub, pk_div, nI_clamp, nI_leI, nI_ltI, nI_eq, vpT, nI_m1, m1_nI, nI_lem1, m1_le, m1_lt, nI_ltm1, nI_bit, nI_shl, nI_xor, nI_or, n_rem, forall_eq, true_and, and_true, implies_true, true_implies, false_implies, not_true_eq_false, not_false_eq_true, Nat.zero_add, Nat.add_zero, ite_true, ite_false, if_true, if_false, true_or, or_true, false_or, or_false, and_self, and_false, false_and, Nat.reduceEqDiff, reduceIte]
    exact hQ
  simp (disch := omega) only [i_0, i_1, i_2, i_3, i_4, i_5, i_6, i_7, i_8, i_9, i_10, i_11, i_12, i_13, i_16, i_19, i_20, i_21, i_22, i_23, i_24, i_25, i_30, i_31, i_32, i_39, i_40, i_41, i_42, i_43, i_44, i_45, i_47, i_48, i_49, i_50, i_51, i_52, i_57, i_59, i_60, i_61, i_62, i_63, i_64, i_71, i_72, i_80, i_91, i_93, i_97, i_99, i_100, i_122, i_227, i_228, i_232, i_251, i_255, i_256, i_463, i_999, i_1000, i_1519, i_1600, i_9999, i_100000000, i_2147483639, i_2147483647, neg_nI1, nI_add, pk_mul, nI_remL, pk_sub, pk_div, nI_clamp, nI_leI, nI_ltI, nI_eq, vpT, nI_m1, m1_nI, nI_lem1, m1_le, m1_lt, nI_ltm1, nI_bit, nI_shl, nI_xor, nI_or, n_rem, forall_eq, true_and, and_true, implies_true, true_implies, false_implies, not_true_eq_false, not_false_eq_true, Nat.zero_add, Nat.add_zero, ite_true, ite_false, if_true, if_false, true_or, or_true, false_or, or_false, and_self, and_false, false_and, Nat.reduceEqDiff, reduceIte]
  refine ml_is1 (k := 97) h hb (by unfold mok; decide) (by decide) (by decide) (fun w => ?_) (fun n6 => ?_)
  · have e : wHere t e b = 6 := by unfold wHere; rw [if_pos ⟨w.1, w.2.1⟩]; exact wIx_6 (fun q => n0 ⟨w.1, w.2.1, q.symm⟩) (fun q => n1 ⟨w.1, w.2.1, q.symm⟩) (fun q => n2 ⟨w.1, w.2.1, q.symm⟩) (fun q => n3 ⟨w.1, w.2.1, q.symm⟩) (fun q => n4 ⟨w.1, w.2.1, q.symm⟩) (fun q => n5 ⟨w.1, w.2.1, q.symm⟩) w.2.2.symm
    rw [e, if_pos (by decide)] at hQ
    simp (disch := omega) only [i_0, i_1, i_2, i_3, i_4, i_5, i_6, i_7, i_8, i_9, i_10, i_11, i_12, i_13, i_16, i_19, i_20, i_21, i_22, i_23, i_24, i_25, i_30, i_31, i_32, i_39, i_40, i_41, i_42, i_43, i_44, i_45, i_47, i_48, i_49, i_50, i_51, i_52, i_57, i_59, i_60, i_61, i_62, i_63, i_64, i_71, i_72, i_80, i_91, i_93, i_97, i_99, i_100, i_122, i_227, i_228, i_232, i_251, i_255, i_256, i_463, i_999, i_1000, i_1519, i_1600, i_9999, i_100000000, i_2147483639, i_2147483647, neg_nI1, nI_add, pk_mul, nI_remL, pk_sub, pk_div, nI_clamp, nI_leI, nI_ltI, nI_eq, vpT, nI_m1, m1_nI, nI_lem1, m1_le, m1_lt, nI_ltm1, nI_bit, nI_shl, nI_xor, nI_or, n_rem, forall_eq, true_and, and_true, implies_true, true_implies, false_implies, not_true_eq_false, not_false_eq_true, Nat.zero_add, Nat.add_zero, ite_true, ite_false, if_true, if_false, true_or, or_true, false_or, or_false, and_self, and_false, false_and, Nat.reduceEqDiff, reduceIte]
    exact hQ
  simp (disch := omega) only [i_0, i_1, i_2, i_3, i_4, i_5, i_6, i_7, i_8, i_9, i_10, i_11, i_12, i_13, i_16, i_19, i_20, i_21, i_22, i_23, i_24, i_25, i_30, i_31, i_32, i_39, i_40, i_41, i_42, i_43, i_44, i_45, i_47, i_48, i_49, i_50, i_51, i_52, i_57, i_59, i_60, i_61, i_62, i_63, i_64, i_71, i_72, i_80, i_91, i_93, i_97, i_99, i_100, i_122, i_227, i_228, i_232, i_251, i_255, i_256, i_463, i_999, i_1000, i_1519, i_1600, i_9999, i_100000000, i_2147483639, i_2147483647, neg_nI1, nI_add, pk_mul, nI_remL, pk_sub, pk_div, nI_clamp, nI_leI, nI_ltI, nI_eq, vpT, nI_m1, m1_nI, nI_lem1, m1_le, m1_lt, nI_ltm1, nI_bit, nI_shl, nI_xor, nI_or, n_rem, forall_eq, true_and, and_true, implies_true, true_implies, false_implies, not_true_eq_false, not_false_eq_true, Nat.zero_add, Nat.add_zero, ite_true, ite_false, if_true, if_false, true_or, or_true, false_or, or_false, and_self, and_false, false_and, Nat.reduceEqDiff, reduceIte]
  refine ml_is1 (k := 98) h hb (by unfold mok; decide) (by decide) (by decide) (fun w => ?_) (fun n7 => ?_)
  · have e : wHere t e b = 7 := by unfold wHere; rw [if_pos ⟨w.1, w.2.1⟩]; exact wIx_7 (fun q => n0 ⟨w.1, w.2.1, q.symm⟩) (fun q => n1 ⟨w.1, w.2.1, q.symm⟩) (fun q => n2 ⟨w.1, w.2.1, q.symm⟩) (fun q => n3 ⟨w.1, w.2.1, q.symm⟩) (fun q => n4 ⟨w.1, w.2.1, q.symm⟩) (fun q => n5 ⟨w.1, w.2.1, q.symm⟩) (fun q => n6 ⟨w.1, w.2.1, q.symm⟩) w.2.2.symm
    rw [e, if_pos (by decide)] at hQ
    simp (disch := omega) only [i_0, i_1, i_2, i_3, i_4, i_5, i_6, i_7, i_8, i_9, i_10, i_11, i_12, i_13, i_16, i_19, i_20, i_21, i_22, i_23, i_24, i_25, i_30, i_31, i_32, i_39, i_40, i_41, i_42, i_43, i_44, i_45, i_47, i_48, i_49, i_50, i_51, i_52, i_57, i_59, i_60, i_61, i_62, i_63, i_64, i_71, i_72, i_80, i_91, i_93, i_97, i_99, i_100, i_122, i_227, i_228, i_232, i_251, i_255, i_256, i_463, i_999, i_1000, i_1519, i_1600, i_9999, i_100000000, i_2147483639, i_2147483647, neg_nI1, nI_add, pk_mul, nI_remL, pk_sub, pk_div, nI_clamp, nI_leI, nI_ltI, nI_eq, vpT, nI_m1, m1_nI, nI_lem1, m1_le, m1_lt, nI_ltm1, nI_bit, nI_shl, nI_xor, nI_or, n_rem, forall_eq, true_and, and_true, implies_true, true_implies, false_implies, not_true_eq_false, not_false_eq_true, Nat.zero_add, Nat.add_zero, ite_true, ite_false, if_true, if_false, true_or, or_true, false_or, or_false, and_self, and_false, false_and, Nat.reduceEqDiff, reduceIte]
    exact hQ
  simp (disch := omega) only [i_0, i_1, i_2, i_3, i_4, i_5, i_6, i_7, i_8, i_9, i_10, i_11, i_12, i_13, i_16, i_19, i_20, i_21, i_22, i_23, i_24, i_25, i_30, i_31, i_32, i_39, i_40, i_41, i_42, i_43, i_44, i_45, i_47, i_48, i_49, i_50, i_51, i_52, i_57, i_59, i_60, i_61, i_62, i_63, i_64, i_71, i_72, i_80, i_91, i_93, i_97, i_99, i_100, i_122, i_227, i_228, i_232, i_251, i_255, i_256, i_463, i_999, i_1000, i_1519, i_1600, i_9999, i_100000000, i_2147483639, i_2147483647, neg_nI1, nI_add, pk_mul, nI_remL, pk_sub, pk_div, nI_clamp, nI_leI, nI_ltI, nI_eq, vpT, nI_m1, m1_nI, nI_lem1, m1_le, m1_lt, nI_ltm1, nI_bit, nI_shl, nI_xor, nI_or, n_rem, forall_eq, true_and, and_true, implies_true, true_implies, false_implies, not_true_eq_false, not_false_eq_true, Nat.zero_add, Nat.add_zero, ite_true, ite_false, if_true, if_false, true_or, or_true, false_or, or_false, and_self, and_false, false_and, Nat.reduceEqDiff, reduceIte]
  refine ml_is1 (k := 99) h hb (by unfold mok; decide) (by decide) (by decide) (fun w => ?_) (fun n8 => ?_)
  · have e : wHere t e b = 8 := by unfold wHere; rw [if_pos ⟨w.1, w.2.1⟩]; exact wIx_8 (fun q => n0 ⟨w.1, w.2.1, q.symm⟩) (fun q => n1 ⟨w.1, w.2.1, q.symm⟩) (fun q => n2 ⟨w.1, w.2.1, q.symm⟩) (fun q => n3 ⟨w.1, w.2.1, q.symm⟩) (fun q => n4 ⟨w.1, w.2.1, q.symm⟩) (fun q => n5 ⟨w.1, w.2.1, q.symm⟩) (fun q => n6 ⟨w.1, w.2.1, q.symm⟩) (fun q => n7 ⟨w.1, w.2.1, q.symm⟩) w.2.2.symm
    rw [e, if_pos (by decide)] at hQ
    simp (disch := omega) only [i_0, i_1, i_2, i_3, i_4, i_5, i_6, i_7, i_8, i_9, i_10, i_11, i_12, i_13, i_16, i_19, i_20, i_21, i_22, i_23, i_24, i_25, i_30, i_31, i_32, i_39, i_40, i_41, i_42, i_43, i_44, i_45, i_47, i_48, i_49, i_50, i_51, i_52, i_57, i_59, i_60, i_61, i_62, i_63, i_64, i_71, i_72, i_80, i_91, i_93, i_97, i_99, i_100, i_122, i_227, i_228, i_232, i_251, i_255, i_256, i_463, i_999, i_1000, i_1519, i_1600, i_9999, i_100000000, i_2147483639, i_2147483647, neg_nI1, nI_add, pk_mul, nI_remL, pk_sub, pk_div, nI_clamp, nI_leI, nI_ltI, nI_eq, vpT, nI_m1, m1_nI, nI_lem1, m1_le, m1_lt, nI_ltm1, nI_bit, nI_shl, nI_xor, nI_or, n_rem, forall_eq, true_and, and_true, implies_true, true_implies, false_implies, not_true_eq_false, not_false_eq_true, Nat.zero_add, Nat.add_zero, ite_true, ite_false, if_true, if_false, true_or, or_true, false_or, or_false, and_self, and_false, false_and, Nat.reduceEqDiff, reduceIte]
    exact hQ
  simp (disch := omega) only [i_0, i_1, i_2, i_3, i_4, i_5, i_6, i_7, i_8, i_9, i_10, i_11, i_12, i_13, i_16, i_19, i_20, i_21, i_22, i_23, i_24, i_25, i_30, i_31, i_32, i_39, i_40, i_41, i_42, i_43, i_44, i_45, i_47, i_48, i_49, i_50, i_51, i_52, i_57, i_59, i_60, i_61, i_62, i_63, i_64, i_71, i_72, i_80, i_91, i_93, i_97, i_99, i_100, i_122, i_227, i_228, i_232, i_251, i_255, i_256, i_463, i_999, i_1000, i_1519, i_1600, i_9999, i_100000000, i_2147483639, i_2147483647, neg_nI1, nI_add, pk_mul, nI_remL, pk_sub, pk_div, nI_clamp, nI_leI, nI_ltI, nI_eq, vpT, nI_m1, m1_nI, nI_lem1, m1_le, m1_lt, nI_ltm1, nI_bit, nI_shl, nI_xor, nI_or, n_rem, forall_eq, true_and, and_true, implies_true, true_implies, false_implies, not_true_eq_false, not_false_eq_true, Nat.zero_add, Nat.add_zero, ite_true, ite_false, if_true, if_false, true_or, or_true, false_or, or_false, and_self, and_false, false_and, Nat.reduceEqDiff, reduceIte]
  refine ml_is1 (k := 100) h hb (by unfold mok; decide) (by decide) (by decide) (fun w => ?_) (fun n9 => ?_)
  · have e : wHere t e b = 9 := by unfold wHere; rw [if_pos ⟨w.1, w.2.1⟩]; exact wIx_9 (fun q => n0 ⟨w.1, w.2.1, q.symm⟩) (fun q => n1 ⟨w.1, w.2.1, q.symm⟩) (fun q => n2 ⟨w.1, w.2.1, q.symm⟩) (fun q => n3 ⟨w.1, w.2.1, q.symm⟩) (fun q => n4 ⟨w.1, w.2.1, q.symm⟩) (fun q => n5 ⟨w.1, w.2.1, q.symm⟩) (fun q => n6 ⟨w.1, w.2.1, q.symm⟩) (fun q => n7 ⟨w.1, w.2.1, q.symm⟩) (fun q => n8 ⟨w.1, w.2.1, q.symm⟩) w.2.2.symm
    rw [e, if_pos (by decide)] at hQ
    simp (disch := omega) only [i_0, i_1, i_2, i_3, i_4, i_5, i_6, i_7, i_8, i_9, i_10, i_11, i_12, i_13, i_16, i_19, i_20, i_21, i_22, i_23, i_24, i_25, i_30, i_31, i_32, i_39, i_40, i_41, i_42, i_43, i_44, i_45, i_47, i_48, i_49, i_50, i_51, i_52, i_57, i_59, i_60, i_61, i_62, i_63, i_64, i_71, i_72, i_80, i_91, i_93, i_97, i_99, i_100, i_122, i_227, i_228, i_232, i_251, i_255, i_256, i_463, i_999, i_1000, i_1519, i_1600, i_9999, i_100000000, i_2147483639, i_2147483647, neg_nI1, nI_add, pk_mul, nI_remL, pk_sub, pk_div, nI_clamp, nI_leI, nI_ltI, nI_eq, vpT, nI_m1, m1_nI, nI_lem1, m1_le, m1_lt, nI_ltm1, nI_bit, nI_shl, nI_xor, nI_or, n_rem, forall_eq, true_and, and_true, implies_true, true_implies, false_implies, not_true_eq_false, not_false_eq_true, Nat.zero_add, Nat.add_zero, ite_true, ite_false, if_true, if_false, true_or, or_true, false_or, or_false, and_self, and_false, false_and, Nat.reduceEqDiff, reduceIte]
    exact hQ
  simp (disch := omega) only [i_0, i_1, i_2, i_3, i_4, i_5, i_6, i_7, i_8, i_9, i_10, i_11, i_12, i_13, i_16, i_19, i_20, i_21, i_22, i_23, i_24, i_25, i_30, i_31, i_32, i_39, i_40, i_41, i_42, i_43, i_44, i_45, i_47, i_48, i_49, i_50, i_51, i_52, i_57, i_59, i_60, i_61, i_62, i_63, i_64, i_71, i_72, i_80, i_91, i_93, i_97, i_99, i_100, i_122, i_227, i_228, i_232, i_251, i_255, i_256, i_463, i_999, i_1000, i_1519, i_1600, i_9999, i_100000000, i_2147483639, i_2147483647, neg_nI1, nI_add, pk_mul, nI_remL, pk_sub, pk_div, nI_clamp, nI_leI, nI_ltI, nI_eq, vpT, nI_m1, m1_nI, nI_lem1, m1_le, m1_lt, nI_ltm1, nI_bit, nI_shl, nI_xor, nI_or, n_rem, forall_eq, true_and, and_true, implies_true, true_implies, false_implies, not_true_eq_false, not_false_eq_true, Nat.zero_add, Nat.add_zero, ite_true, ite_false, if_true, if_false, true_or, or_true, false_or, or_false, and_self, and_false, false_and, Nat.reduceEqDiff, reduceIte]
  refine ml_is1 (k := 101) h hb (by unfold mok; decide) (by decide) (by decide) (fun w => ?_) (fun n10 => ?_)
  · have e : wHere t e b = 10 := by unfold wHere; rw [if_pos ⟨w.1, w.2.1⟩]; exact wIx_10 (fun q => n0 ⟨w.1, w.2.1, q.symm⟩) (fun q => n1 ⟨w.1, w.2.1, q.symm⟩) (fun q => n2 ⟨w.1, w.2.1, q.symm⟩) (fun q => n3 ⟨w.1, w.2.1, q.symm⟩) (fun q => n4 ⟨w.1, w.2.1, q.symm⟩) (fun q => n5 ⟨w.1, w.2.1, q.symm⟩) (fun q => n6 ⟨w.1, w.2.1, q.symm⟩) (fun q => n7 ⟨w.1, w.2.1, q.symm⟩) (fun q => n8 ⟨w.1, w.2.1, q.symm⟩) (fun q => n9 ⟨w.1, w.2.1, q.symm⟩) w.2.2.symm
    rw [e, if_pos (by decide)] at hQ
    simp (disch := omega) only [i_0, i_1, i_2, i_3, i_4, i_5, i_6, i_7, i_8, i_9, i_10, i_11, i_12, i_13, i_16, i_19, i_20, i_21, i_22, i_23, i_24, i_25, i_30, i_31, i_32, i_39, i_40, i_41, i_42, i_43, i_44, i_45, i_47, i_48, i_49, i_50, i_51, i_52, i_57, i_59, i_60, i_61, i_62, i_63, i_64, i_71, i_72, i_80, i_91, i_93, i_97, i_99, i_100, i_122, i_227, i_228, i_232, i_251, i_255, i_256, i_463, i_999, i_1000, i_1519, i_1600, i_9999, i_100000000, i_2147483639, i_2147483647, neg_nI1, nI_add, pk_mul, nI_remL, pk_sub, pk_div, nI_clamp, nI_leI, nI_ltI, nI_eq, vpT, nI_m1, m1_nI, nI_lem1, m1_le, m1_lt, nI_ltm1, nI_bit, nI_shl, nI_xor, nI_or, n_rem, forall_eq, true_and, and_true, implies_true, true_implies, false_implies, not_true_eq_false, not_false_eq_true, Nat.zero_add, Nat.add_zero, ite_true, ite_false, if_true, if_false, true_or, or_true, false_or, or_false, and_self, and_false, false_and, Nat.reduceEqDiff, reduceIte]
    exact hQ
  simp (disch := omega) only [i_0, i_1, i_2, i_3, i_4, i_5, i_6, i_7, i_8, i_9, i_10, i_11, i_12, i_13, i_16, i_19, i_20, i_21, i_22, i_23, i_24, i_25, i_30, i_31, i_32, i_39, i_40, i_41, i_42, i_43, i_44, i_45, i_47, i_48, i_49, i_50, i_51, i_52, i_57, i_59, i_60, i_61, i_62, i_63, i_64, i_71, i_72, i_80, i_91, i_93, i_97, i_99, i_100, i_122, i_227, i_228, i_232, i_251, i_255, i_256, i_463, i_999, i_1000, i_1519, i_1600, i_9999, i_100000000, i_2147483639, i_2147483647, neg_nI1, nI_add, pk_mul, nI_remL, pk_sub, pk_div, nI_clamp, nI_leI, nI_ltI, nI_eq, vpT, nI_m1, m1_nI, nI_lem1, m1_le, m1_lt, nI_ltm1, nI_bit, nI_shl, nI_xor, nI_or, n_rem, forall_eq, true_and, and_true, implies_true, true_implies, false_implies, not_true_eq_false, not_false_eq_true, Nat.zero_add, Nat.add_zero, ite_true, ite_false, if_true, if_false, true_or, or_true, false_or, or_false, and_self, and_false, false_and, Nat.reduceEqDiff, reduceIte]
  by_cases z : isLt (bt t e b) = true ∧ prt t b = false
  · have e : wHere t e b = 11 := by unfold wHere; rw [if_pos z]; exact wIx_no (fun q => n0 ⟨z.1, z.2, q.symm⟩) (fun q => n1 ⟨z.1, z.2, q.symm⟩) (fun q => n2 ⟨z.1, z.2, q.symm⟩) (fun q => n3 ⟨z.1, z.2, q.symm⟩) (fun q => n4 ⟨z.1, z.2, q.symm⟩) (fun q => n5 ⟨z.1, z.2, q.symm⟩) (fun q => n6 ⟨z.1, z.2, q.symm⟩) (fun q => n7 ⟨z.1, z.2, q.symm⟩) (fun q => n8 ⟨z.1, z.2, q.symm⟩) (fun q => n9 ⟨z.1, z.2, q.symm⟩) (fun q => n10 ⟨z.1, z.2, q.symm⟩)
    rw [e, if_neg (by decide)] at hQ
    exact hQ
  · have e : wHere t e b = 11 := by unfold wHere; rw [if_neg z]
    rw [e, if_neg (by decide)] at hQ
    exact hQ
theorem ml_qWordOf {σ : FS} {t : Nat → Nat} {e b kd lo hi : Nat} {Q : Int32 → FS → Prop} (h : Tok σ t e b) (hb : lk t e b = b) (h51 : fI σ 0 51 = nI kd) (hk : kd < 3) (hlo : lo < 20) (hhi : hi ≤ 11) (hQ : Q (if lo ≤ wHere t e b ∧ wHere t e b < hi ∧ alK kd (wHere t e b) = true then nI (wHere t e b) else M1) σ) : mw_qWordOf (nI lo) (nI hi) σ Q := by
  unfold mw_qWordOf
  refine ml_qWordHere h hb ?_
  by_cases z : wHere t e b < 11
  · rw [if_pos z]
    simp (disch := omega) only [i_0, i_1, i_2, i_3, i_4, i_5, i_6, i_7, i_8, i_9, i_10, i_11, i_12, i_13, i_16, i_19, i_20, i_21, i_22, i_23, i_24, i_25, i_30, i_31, i_32, i_39, i_40, i_41, i_42, i_43, i_44, i_45, i_47, i_48, i_49, i_50, i_51, i_52, i_57, i_59, i_60, i_61, i_62, i_63, i_64, i_71, i_72, i_80, i_91, i_93, i_97, i_99, i_100, i_122, i_227, i_228, i_232, i_251, i_255, i_256, i_463, i_999, i_1000, i_1519, i_1600, i_9999, i_100000000, i_2147483639, i_2147483647, neg_nI1, nI_add, pk_mul, nI_remL, pk_sub, pk_div, nI_clamp, nI_leI, nI_ltI, nI_eq, vpT, nI_m1, m1_nI, nI_lem1, m1_le, m1_lt, nI_ltm1, nI_bit, nI_shl, nI_xor, nI_or, n_rem, forall_eq, true_and, and_true, implies_true, true_implies, false_implies, not_true_eq_false, not_false_eq_true, Nat.zero_add, Nat.add_zero, ite_true, ite_false, if_true, if_false, true_or, or_true, false_or, or_false, and_self, and_false, false_and, Nat.reduceEqDiff, reduceIte]
    refine ⟨fun z1 => ?_, fun z1 => ⟨fun z2 => ?_, fun z2 => ml_isAllowed h51 hk z ?_⟩⟩
    · rw [if_neg (by omega)] at hQ; exact hQ
    · rw [if_neg (by omega)] at hQ; exact hQ
    · by_cases z3 : alK kd (wHere t e b) = true
      · rw [if_pos z3]
        rw [if_pos ⟨by omega, by omega, z3⟩] at hQ
        simp (disch := omega) only [i_0, i_1, i_2, i_3, i_4, i_5, i_6, i_7, i_8, i_9, i_10, i_11, i_12, i_13, i_16, i_19, i_20, i_21, i_22, i_23, i_24, i_25, i_30, i_31, i_32, i_39, i_40, i_41, i_42, i_43, i_44, i_45, i_47, i_48, i_49, i_50, i_51, i_52, i_57, i_59, i_60, i_61, i_62, i_63, i_64, i_71, i_72, i_80, i_91, i_93, i_97, i_99, i_100, i_122, i_227, i_228, i_232, i_251, i_255, i_256, i_463, i_999, i_1000, i_1519, i_1600, i_9999, i_100000000, i_2147483639, i_2147483647, neg_nI1, nI_add, pk_mul, nI_remL, pk_sub, pk_div, nI_clamp, nI_leI, nI_ltI, nI_eq, vpT, nI_m1, m1_nI, nI_lem1, m1_le, m1_lt, nI_ltm1, nI_bit, nI_shl, nI_xor, nI_or, n_rem, forall_eq, true_and, and_true, implies_true, true_implies, false_implies, not_true_eq_false, not_false_eq_true, Nat.zero_add, Nat.add_zero, ite_true, ite_false, if_true, if_false, true_or, or_true, false_or, or_false, and_self, and_false, false_and, Nat.reduceEqDiff, reduceIte]
        exact hQ
      · rw [if_neg z3]
        rw [if_neg (fun q => z3 q.2.2)] at hQ
        simp (disch := omega) only [i_0, i_1, i_2, i_3, i_4, i_5, i_6, i_7, i_8, i_9, i_10, i_11, i_12, i_13, i_16, i_19, i_20, i_21, i_22, i_23, i_24, i_25, i_30, i_31, i_32, i_39, i_40, i_41, i_42, i_43, i_44, i_45, i_47, i_48, i_49, i_50, i_51, i_52, i_57, i_59, i_60, i_61, i_62, i_63, i_64, i_71, i_72, i_80, i_91, i_93, i_97, i_99, i_100, i_122, i_227, i_228, i_232, i_251, i_255, i_256, i_463, i_999, i_1000, i_1519, i_1600, i_9999, i_100000000, i_2147483639, i_2147483647, neg_nI1, nI_add, pk_mul, nI_remL, pk_sub, pk_div, nI_clamp, nI_leI, nI_ltI, nI_eq, vpT, nI_m1, m1_nI, nI_lem1, m1_le, m1_lt, nI_ltm1, nI_bit, nI_shl, nI_xor, nI_or, n_rem, forall_eq, true_and, and_true, implies_true, true_implies, false_implies, not_true_eq_false, not_false_eq_true, Nat.zero_add, Nat.add_zero, ite_true, ite_false, if_true, if_false, true_or, or_true, false_or, or_false, and_self, and_false, false_and, Nat.reduceEqDiff, reduceIte]
        exact hQ
  · rw [if_neg z]
    rw [if_neg (by omega)] at hQ
    simp (disch := omega) only [i_0, i_1, i_2, i_3, i_4, i_5, i_6, i_7, i_8, i_9, i_10, i_11, i_12, i_13, i_16, i_19, i_20, i_21, i_22, i_23, i_24, i_25, i_30, i_31, i_32, i_39, i_40, i_41, i_42, i_43, i_44, i_45, i_47, i_48, i_49, i_50, i_51, i_52, i_57, i_59, i_60, i_61, i_62, i_63, i_64, i_71, i_72, i_80, i_91, i_93, i_97, i_99, i_100, i_122, i_227, i_228, i_232, i_251, i_255, i_256, i_463, i_999, i_1000, i_1519, i_1600, i_9999, i_100000000, i_2147483639, i_2147483647, neg_nI1, nI_add, pk_mul, nI_remL, pk_sub, pk_div, nI_clamp, nI_leI, nI_ltI, nI_eq, vpT, nI_m1, m1_nI, nI_lem1, m1_le, m1_lt, nI_ltm1, nI_bit, nI_shl, nI_xor, nI_or, n_rem, forall_eq, true_and, and_true, implies_true, true_implies, false_implies, not_true_eq_false, not_false_eq_true, Nat.zero_add, Nat.add_zero, ite_true, ite_false, if_true, if_false, true_or, or_true, false_or, or_false, and_self, and_false, false_and, Nat.reduceEqDiff, reduceIte]
    exact hQ
theorem wIx_str {w : List Nat} (h : wIx w < 11) : str (91 + wIx w) = w := by
  by_cases n0 : str 91 = w
  · rw [wIx_0  n0]; exact n0
  by_cases n1 : str 92 = w
  · rw [wIx_1 n0 n1]; exact n1
  by_cases n2 : str 93 = w
  · rw [wIx_2 n0 n1 n2]; exact n2
  by_cases n3 : str 94 = w
  · rw [wIx_3 n0 n1 n2 n3]; exact n3
  by_cases n4 : str 95 = w
  · rw [wIx_4 n0 n1 n2 n3 n4]; exact n4
  by_cases n5 : str 96 = w
  · rw [wIx_5 n0 n1 n2 n3 n4 n5]; exact n5
  by_cases n6 : str 97 = w
  · rw [wIx_6 n0 n1 n2 n3 n4 n5 n6]; exact n6
  by_cases n7 : str 98 = w
  · rw [wIx_7 n0 n1 n2 n3 n4 n5 n6 n7]; exact n7
  by_cases n8 : str 99 = w
  · rw [wIx_8 n0 n1 n2 n3 n4 n5 n6 n7 n8]; exact n8
  by_cases n9 : str 100 = w
  · rw [wIx_9 n0 n1 n2 n3 n4 n5 n6 n7 n8 n9]; exact n9
  by_cases n10 : str 101 = w
  · rw [wIx_10 n0 n1 n2 n3 n4 n5 n6 n7 n8 n9 n10]; exact n10
  rw [wIx_no n0 n1 n2 n3 n4 n5 n6 n7 n8 n9 n10] at h
  omega
theorem wHere_here {t : Nat → Nat} {e b : Nat} (h : wHere t e b < 11) : hereW t e b (str (91 + wHere t e b)) ∧ wIx (wd t b (wE t e b)) = wHere t e b := by
  unfold wHere at h ⊢
  by_cases z : isLt (bt t e b) = true ∧ prt t b = false
  · rw [if_pos z] at h ⊢
    exact ⟨⟨z.1, z.2, (wIx_str h).symm⟩, rfl⟩
  · rw [if_neg z] at h; omega
theorem ml_needsHere {σ : FS} {t : Nat → Nat} {e b k : Nat} {Q : FS → Prop} (h : Tok σ t e b) (hb : lk t e b = b) (hk : mok 3 k) (hl : mlen k = (str k).length) (h7 : (str k).length ≤ 6) (hw : hereW t e b (str k)) (hQ : ∀ σ', FT σ σ' → Tok σ' t e (wE t e b) → Q σ') : mw_needs k σ Q := by
  refine ml_needs h hk hl h7 (fun c σ' hp hF hT => ?_) (fun q σ' hp hF hB => ?_)
  · rw [pExp_here (by rw [hb]; exact hw), hb] at hp
    cases hp
    exact hQ σ' hF hT
  · rw [pExp_here (by rw [hb]; exact hw)] at hp
    cases hp
theorem ml_qAsksWord {σ : FS} {t : Nat → Nat} {e b k : Nat} {Q : FS → Prop} (h : Tok σ t e b) (hb : lk t e b = b) (hk : k < 11) (hw : hereW t e b (str (91 + k))) (hQ : ∀ σ', FT σ σ' → Tok σ' t e (wE t e b) → Q σ') : mw_qAsksWord (nI k) σ Q := by
  unfold mw_qAsksWord
  have hkk : k = 0 ∨ k = 1 ∨ k = 2 ∨ k = 3 ∨ k = 4 ∨ k = 5 ∨ k = 6 ∨ k = 7 ∨ k = 8 ∨ k = 9 ∨ k = 10 := by omega
  rcases hkk with rfl | rfl | rfl | rfl | rfl | rfl | rfl | rfl | rfl | rfl | rfl <;> simp (disch := omega) only [i_0, i_1, i_2, i_3, i_4, i_5, i_6, i_7, i_8, i_9, i_10, i_11, i_12, i_13, i_16, i_19, i_20, i_21, i_22, i_23, i_24, i_25, i_30, i_31, i_32, i_39, i_40, i_41, i_42, i_43, i_44, i_45, i_47, i_48, i_49, i_50, i_51, i_52, i_57, i_59, i_60, i_61, i_62, i_63, i_64, i_71, i_72, i_80, i_91, i_93, i_97, i_99, i_100, i_122, i_227, i_228, i_232, i_251, i_255, i_256, i_463, i_999, i_1000, i_1519, i_1600, i_9999, i_100000000, i_2147483639, i_2147483647, neg_nI1, nI_add, pk_mul, nI_remL, pk_sub, pk_div, nI_clamp, nI_leI, nI_ltI, nI_eq, vpT, nI_m1, m1_nI, nI_lem1, m1_le, m1_lt, nI_ltm1, nI_bit, nI_shl, nI_xor, nI_or, n_rem, forall_eq, true_and, and_true, implies_true, true_implies, false_implies, not_true_eq_false, not_false_eq_true, Nat.zero_add, Nat.add_zero, ite_true, ite_false, if_true, if_false, true_or, or_true, false_or, or_false, and_self, and_false, false_and, Nat.reduceEqDiff, reduceIte]
  · exact ml_needsHere (k := 91) h hb (by unfold mok; decide) (by decide) (by decide) hw hQ
  · exact ml_needsHere (k := 92) h hb (by unfold mok; decide) (by decide) (by decide) hw hQ
  · exact ml_needsHere (k := 93) h hb (by unfold mok; decide) (by decide) (by decide) hw hQ
  · exact ml_needsHere (k := 94) h hb (by unfold mok; decide) (by decide) (by decide) hw hQ
  · exact ml_needsHere (k := 95) h hb (by unfold mok; decide) (by decide) (by decide) hw hQ
  · exact ml_needsHere (k := 96) h hb (by unfold mok; decide) (by decide) (by decide) hw hQ
  · exact ml_needsHere (k := 97) h hb (by unfold mok; decide) (by decide) (by decide) hw hQ
  · exact ml_needsHere (k := 98) h hb (by unfold mok; decide) (by decide) (by decide) hw hQ
  · exact ml_needsHere (k := 99) h hb (by unfold mok; decide) (by decide) (by decide) hw hQ
  · exact ml_needsHere (k := 100) h hb (by unfold mok; decide) (by decide) (by decide) hw hQ
  · exact ml_needsHere (k := 101) h hb (by unfold mok; decide) (by decide) (by decide) hw hQ
/-- as Xs, but how long codes and waits may be is not said -/
def Xr (σ : FS) (t : Nat → Nat) (e a : Nat) (C W : List Nat) (o B : Nat) : Prop := Tok σ t e a ∧ Cq σ C ∧ Wq σ W ∧ (fI σ 0 106 = nI o ∧ o ≤ 6) ∧ fI σ 0 107 = nI B
theorem Xs.r {σ : FS} {t : Nat → Nat} {e a : Nat} {C W : List Nat} {o B : Nat} (h : Xs σ t e a C W o B) : Xr σ t e a C W o B := ⟨h.1, h.2.1, h.2.2.1, h.2.2.2.1, h.2.2.2.2.1⟩
theorem Xr.s {σ : FS} {t : Nat → Nat} {e a : Nat} {C W : List Nat} {o B : Nat} (h : Xr σ t e a C W o B) (hl : C.length + W.length ≤ a) : Xs σ t e a C W o B := ⟨h.1, h.2.1, h.2.2.1, h.2.2.2.1, h.2.2.2.2, hl⟩
theorem Xr.tok {σ σ' : FS} {t : Nat → Nat} {e a b : Nat} {C W : List Nat} {o B : Nat} (h : Xr σ t e a C W o B) (f : FT σ σ') (hT : Tok σ' t e b) : Xr σ' t e b C W o B :=
  ⟨hT, h.2.1.eqv (f.1 103 (by decide)) (f.2.1 102 (by decide)), h.2.2.1.eqv (f.1 105 (by decide)) (f.2.1 104 (by decide)), ⟨by rw [f.1 106 (by decide)]; exact h.2.2.2.1.1, h.2.2.2.1.2⟩, by rw [f.1 107 (by decide)]; exact h.2.2.2.2⟩
theorem FW.q {σ σ' : FS} (h : FW σ σ') : FQ σ σ' := h.wide (by decide) (by decide) (by decide)
theorem ml_qOpens {σ : FS} {t : Nat → Nat} {e a pl : Nat} {C W : List Nat} {w o B : Nat} {Q : FS → Prop} (h : Xs σ t e a C W o B) (hw : w < 100) (ho : o < 6 → ∀ σ', FW σ σ' → Xr σ' t e a C (w :: W) (o + 1) B → Q σ') (hx : o = 6 → ∀ σ', FT σ σ' → Bd σ' (4, pl) → Q σ') : mw_qOpens (nI w) (nI pl) σ Q := by
  have hle := h.1.le
  obtain ⟨hT, hC, hW, hO, hB, hl⟩ := h
  unfold mw_qOpens
  rw [hT.2.2.2.1, hO.1]
  simp (disch := omega) only [i_0, i_1, i_2, i_3, i_4, i_5, i_6, i_7, i_8, i_9, i_10, i_11, i_12, i_13, i_16, i_19, i_20, i_21, i_22, i_23, i_24, i_25, i_30, i_31, i_32, i_39, i_40, i_41, i_42, i_43, i_44, i_45, i_47, i_48, i_49, i_50, i_51, i_52, i_57, i_59, i_60, i_61, i_62, i_63, i_64, i_71, i_72, i_80, i_91, i_93, i_97, i_99, i_100, i_122, i_227, i_228, i_232, i_251, i_255, i_256, i_463, i_999, i_1000, i_1519, i_1600, i_9999, i_100000000, i_2147483639, i_2147483647, neg_nI1, nI_add, pk_mul, nI_remL, pk_sub, pk_div, nI_clamp, nI_leI, nI_ltI, nI_eq, vpT, nI_m1, m1_nI, nI_lem1, m1_le, m1_lt, nI_ltm1, nI_bit, nI_shl, nI_xor, nI_or, n_rem, forall_eq, true_and, and_true, implies_true, true_implies, false_implies, not_true_eq_false, not_false_eq_true, Nat.zero_add, Nat.add_zero, ite_true, ite_false, if_true, if_false, true_or, or_true, false_or, or_false, and_self, and_false, false_and, Nat.reduceEqDiff, reduceIte]
  refine ⟨fun z => ?_, fun z => ml_fail (q := (4, pl)) hT.2.2.2.1 (by simp) (fun σ' hF hB => hx z σ' (hF.wide (by decide) (by decide) (by decide)) hB)⟩
  simp (disch := omega) only [i_0, i_1, i_2, i_3, i_4, i_5, i_6, i_7, i_8, i_9, i_10, i_11, i_12, i_13, i_16, i_19, i_20, i_21, i_22, i_23, i_24, i_25, i_30, i_31, i_32, i_39, i_40, i_41, i_42, i_43, i_44, i_45, i_47, i_48, i_49, i_50, i_51, i_52, i_57, i_59, i_60, i_61, i_62, i_63, i_64, i_71, i_72, i_80, i_91, i_93, i_97, i_99, i_100, i_122, i_227, i_228, i_232, i_251, i_255, i_256, i_463, i_999, i_1000, i_1519, i_1600, i_9999, i_100000000, i_2147483639, i_2147483647, neg_nI1, nI_add, pk_mul, nI_remL, pk_sub, pk_div, nI_clamp, nI_leI, nI_ltI, nI_eq, vpT, nI_m1, m1_nI, nI_lem1, m1_le, m1_lt, nI_ltm1, nI_bit, nI_shl, nI_xor, nI_or, n_rem, forall_eq, true_and, and_true, implies_true, true_implies, false_implies, not_true_eq_false, not_false_eq_true, Nat.zero_add, Nat.add_zero, ite_true, ite_false, if_true, if_false, true_or, or_true, false_or, or_false, and_self, and_false, false_and, Nat.reduceEqDiff, reduceIte, fI_sI, fI_sL, fI_sA, fI_sB, fL_sI, fL_sL, fL_sA, fL_sB, fA_sI, fA_sL, fA_sA, fA_sB, fB_sI, fB_sL, fB_sA, fB_sB]
  rw [hW.1]
  simp (disch := omega) only [i_0, i_1, i_2, i_3, i_4, i_5, i_6, i_7, i_8, i_9, i_10, i_11, i_12, i_13, i_16, i_19, i_20, i_21, i_22, i_23, i_24, i_25, i_30, i_31, i_32, i_39, i_40, i_41, i_42, i_43, i_44, i_45, i_47, i_48, i_49, i_50, i_51, i_52, i_57, i_59, i_60, i_61, i_62, i_63, i_64, i_71, i_72, i_80, i_91, i_93, i_97, i_99, i_100, i_122, i_227, i_228, i_232, i_251, i_255, i_256, i_463, i_999, i_1000, i_1519, i_1600, i_9999, i_100000000, i_2147483639, i_2147483647, neg_nI1, nI_add, pk_mul, nI_remL, pk_sub, pk_div, nI_clamp, nI_leI, nI_ltI, nI_eq, vpT, nI_m1, m1_nI, nI_lem1, m1_le, m1_lt, nI_ltm1, nI_bit, nI_shl, nI_xor, nI_or, n_rem, forall_eq, true_and, and_true, implies_true, true_implies, false_implies, not_true_eq_false, not_false_eq_true, Nat.zero_add, Nat.add_zero, ite_true, ite_false, if_true, if_false, true_or, or_true, false_or, or_false, and_self, and_false, false_and, Nat.reduceEqDiff, reduceIte, fI_sI, fI_sL, fI_sA, fI_sB, fL_sI, fL_sL, fL_sA, fL_sB, fA_sI, fA_sL, fA_sA, fA_sB, fB_sI, fB_sL, fB_sA, fB_sB]
  have hF : FW σ (sI (sA (sI σ 0 106 (nI (o + 1))) 104 W.length (nI w)) 0 105 (nI (W.length + 1))) := (Fm.sI σ _ (by decide)).trans ((Fm.sA _ _ _ (by decide)).trans (Fm.sI _ _ (by decide)))
  refine ho (by have := hO.2; omega) _ hF ⟨hT.q hF, hC.eqv (by rw [fI_sI, fI_sA, fI_sI]; simp) (by funext i; rw [fA_sI, fA_sA, if_neg (by omega)]; rfl), ⟨by rw [fI_sI]; simp, ?_, hw, wl_eq hW.2 (fun i hi => by rw [fA_sI, fA_sA, if_neg (by omega)]; rfl)⟩, ⟨by rw [fI_sI, fI_sA, fI_sI]; simp, by have := hO.2; omega⟩, by rw [fI_sI, fI_sA, fI_sI]; simpa using hB⟩
  rw [fA_sI, fA_sA, if_pos ⟨rfl, rfl⟩]
theorem ml_dropsTo {t : Nat → Nat} {e a : Nat} {b : Nat} {Vr W0 : List Nat} {o B : Nat} {Q : FS → Prop} (hb : isBr b) (hB : B = W0.length) : ∀ (Vp C : List Nat) (σ : FS), Xs σ t e a C (Vp ++ b :: Vr ++ W0) o B → (∀ x ∈ Vp, ¬ isBr x) → (∀ σ', FW σ σ' → Xs σ' t e a (C ++ Vp) (b :: Vr ++ W0) o B → Q σ') → ∀ (X : FS → Prop), (∀ (σ : FS), (((fI σ 0 105) ≤ (fI σ 0 107) → Q σ) ∧ (¬ (fI σ 0 105) ≤ (fI σ 0 107) → (vp_in ((fI σ 0 105) - (1 : Int32)) 1700 ∧ mw_qIsBracket (fA σ 104 (Int32.toNatClampNeg ((fI σ 0 105) - (1 : Int32)))) σ (fun r2 σ1 => ((¬ r2 = 0 → Q σ1) ∧ (r2 = 0 → mw_qDrops σ1 (fun σ3 => X σ3))))))) → X σ) → X σ
  | [], C, σ, h, hV, hQ, X, hX => by
    have hle := h.1.le
    have hl := h.2.2.2.2.2
    have h105 := h.2.2.1.1
    have hw := h.2.2.1.2
    simp only [List.nil_append, List.cons_append, List.length_cons] at hl h105 hw
    refine hX σ ?_
    rw [h105, h.2.2.2.2.1, hB]
    rw [List.length_append] at *
    simp (disch := omega) only [i_0, i_1, i_2, i_3, i_4, i_5, i_6, i_7, i_8, i_9, i_10, i_11, i_12, i_13, i_16, i_19, i_20, i_21, i_22, i_23, i_24, i_25, i_30, i_31, i_32, i_39, i_40, i_41, i_42, i_43, i_44, i_45, i_47, i_48, i_49, i_50, i_51, i_52, i_57, i_59, i_60, i_61, i_62, i_63, i_64, i_71, i_72, i_80, i_91, i_93, i_97, i_99, i_100, i_122, i_227, i_228, i_232, i_251, i_255, i_256, i_463, i_999, i_1000, i_1519, i_1600, i_9999, i_100000000, i_2147483639, i_2147483647, neg_nI1, nI_add, pk_mul, nI_remL, pk_sub, pk_div, nI_clamp, nI_leI, nI_ltI, nI_eq, vpT, nI_m1, m1_nI, nI_lem1, m1_le, m1_lt, nI_ltm1, nI_bit, nI_shl, nI_xor, nI_or, n_rem, forall_eq, true_and, and_true, implies_true, true_implies, false_implies, not_true_eq_false, not_false_eq_true, Nat.zero_add, Nat.add_zero, ite_true, ite_false, if_true, if_false, true_or, or_true, false_or, or_false, and_self, and_false, false_and, Nat.reduceEqDiff, reduceIte]
    have e1 : Vr.length + W0.length + 1 - 1 = (Vr ++ W0).length := by rw [List.length_append]; omega
    rw [e1, hw.1]
    have fin := hQ σ (Fm.refl _ _ _ _) (by simpa using h)
    refine ⟨fun _ => fin, fun _ => ml_qIsBracket hw.2.1 ?_⟩
    rw [if_pos (show 20 ≤ b ∧ b ≤ 24 from hb)]
    simp (disch := omega) only [i_0, i_1, i_2, i_3, i_4, i_5, i_6, i_7, i_8, i_9, i_10, i_11, i_12, i_13, i_16, i_19, i_20, i_21, i_22, i_23, i_24, i_25, i_30, i_31, i_32, i_39, i_40, i_41, i_42, i_43, i_44, i_45, i_47, i_48, i_49, i_50, i_51, i_52, i_57, i_59, i_60, i_61, i_62, i_63, i_64, i_71, i_72, i_80, i_91, i_93, i_97, i_99, i_100, i_122, i_227, i_228, i_232, i_251, i_255, i_256, i_463, i_999, i_1000, i_1519, i_1600, i_9999, i_100000000, i_2147483639, i_2147483647, neg_nI1, nI_add, pk_mul, nI_remL, pk_sub, pk_div, nI_clamp, nI_leI, nI_ltI, nI_eq, vpT, nI_m1, m1_nI, nI_lem1, m1_le, m1_lt, nI_ltm1, nI_bit, nI_shl, nI_xor, nI_or, n_rem, forall_eq, true_and, and_true, implies_true, true_implies, false_implies, not_true_eq_false, not_false_eq_true, Nat.zero_add, Nat.add_zero, ite_true, ite_false, if_true, if_false, true_or, or_true, false_or, or_false, and_self, and_false, false_and, Nat.reduceEqDiff, reduceIte]
    exact fin
  | x :: Vp, C, σ, h, hV, hQ, X, hX => by
    have hle := h.1.le
    have hl := h.2.2.2.2.2
    have h105 := h.2.2.1.1
    have hw := h.2.2.1.2
    simp only [List.cons_append, List.length_cons] at hl h105 hw
    have hxb : ¬ isBr x := hV x List.mem_cons_self
    refine hX σ ?_
    have hlen : (Vp ++ b :: Vr ++ W0).length + 1 ≤ 1600 := by omega
    have hW0 : W0.length < (Vp ++ b :: Vr ++ W0).length := by simp only [List.length_append, List.length_cons]; omega
    rw [h105, h.2.2.2.2.1, hB]
    simp (disch := omega) only [i_0, i_1, i_2, i_3, i_4, i_5, i_6, i_7, i_8, i_9, i_10, i_11, i_12, i_13, i_16, i_19, i_20, i_21, i_22, i_23, i_24, i_25, i_30, i_31, i_32, i_39, i_40, i_41, i_42, i_43, i_44, i_45, i_47, i_48, i_49, i_50, i_51, i_52, i_57, i_59, i_60, i_61, i_62, i_63, i_64, i_71, i_72, i_80, i_91, i_93, i_97, i_99, i_100, i_122, i_227, i_228, i_232, i_251, i_255, i_256, i_463, i_999, i_1000, i_1519, i_1600, i_9999, i_100000000, i_2147483639, i_2147483647, neg_nI1, nI_add, pk_mul, nI_remL, pk_sub, pk_div, nI_clamp, nI_leI, nI_ltI, nI_eq, vpT, nI_m1, m1_nI, nI_lem1, m1_le, m1_lt, nI_ltm1, nI_bit, nI_shl, nI_xor, nI_or, n_rem, forall_eq, true_and, and_true, implies_true, true_implies, false_implies, not_true_eq_false, not_false_eq_true, Nat.zero_add, Nat.add_zero, ite_true, ite_false, if_true, if_false, true_or, or_true, false_or, or_false, and_self, and_false, false_and, Nat.reduceEqDiff, reduceIte]
    have e1 : (Vp ++ b :: Vr ++ W0).length + 1 - 1 = (Vp ++ b :: Vr ++ W0).length := rfl
    rw [e1, hw.1]
    refine ⟨fun z => by omega, fun _ => ml_qIsBracket hw.2.1 ?_⟩
    rw [if_neg (show ¬ (20 ≤ x ∧ x ≤ 24) from hxb)]
    simp (disch := omega) only [i_0, i_1, i_2, i_3, i_4, i_5, i_6, i_7, i_8, i_9, i_10, i_11, i_12, i_13, i_16, i_19, i_20, i_21, i_22, i_23, i_24, i_25, i_30, i_31, i_32, i_39, i_40, i_41, i_42, i_43, i_44, i_45, i_47, i_48, i_49, i_50, i_51, i_52, i_57, i_59, i_60, i_61, i_62, i_63, i_64, i_71, i_72, i_80, i_91, i_93, i_97, i_99, i_100, i_122, i_227, i_228, i_232, i_251, i_255, i_256, i_463, i_999, i_1000, i_1519, i_1600, i_9999, i_100000000, i_2147483639, i_2147483647, neg_nI1, nI_add, pk_mul, nI_remL, pk_sub, pk_div, nI_clamp, nI_leI, nI_ltI, nI_eq, vpT, nI_m1, m1_nI, nI_lem1, m1_le, m1_lt, nI_ltm1, nI_bit, nI_shl, nI_xor, nI_or, n_rem, forall_eq, true_and, and_true, implies_true, true_implies, false_implies, not_true_eq_false, not_false_eq_true, Nat.zero_add, Nat.add_zero, ite_true, ite_false, if_true, if_false, true_or, or_true, false_or, or_false, and_self, and_false, false_and, Nat.reduceEqDiff, reduceIte]
    have hd : Xs σ t e a C (x :: (Vp ++ b :: Vr ++ W0)) o B := h
    refine ml_qDrops hd (fun σ' hF hX' => ?_)
    refine ml_dropsTo hb hB Vp (C ++ [x]) σ' hX' (fun y hy => hV y (List.mem_cons_of_mem _ hy)) (fun σ'' hF2 hX2 => ?_) X hX
    refine hQ σ'' (hF.trans hF2) ?_
    rw [List.append_assoc] at hX2
    exact hX2

