/-! ASK: specification; the reference's parts of it -/
def tkS (k : Nat) (acc : Int) (first : Bool) (v : Int) (p : Nat) : Int :=
  if k = 0 then (if v = 1 ∧ acc = -1 then (p : Int) else acc) else if k = 1 then (if v = 1 then (p : Int) else acc) else if k = 2 then (if v = 1 then acc + 1 else acc) else if k = 3 then acc + v
  else if k = 4 then (if first = true ∨ acc < v then v else acc) else (if first = true ∨ v < acc then v else acc)
def pKind (t : Nat → Nat) (e a : Nat) : PR Nat := if isW (str 79) t e (lk t e a) = true then .inl (0, wE t e (lk t e a)) else if isW (str 80) t e (lk t e a) = true then .inl (1, wE t e (lk t e a)) else if isW (str 81) t e (lk t e a) = true then .inl (2, wE t e (lk t e a)) else if isW (str 82) t e (lk t e a) = true then .inl (3, wE t e (lk t e a)) else if isW (str 83) t e (lk t e a) = true then .inl (4, wE t e (lk t e a)) else pB (pExp (str 84) t e (lk t e a)) (fun _ b => .inl (5, b))
def pAsk (t : Nat → Nat) (e : Nat) : PR (Nat × List Nat) := pB (pKind t e 0) (fun k b => pB (if k < 3 then pTest (pFact (alK 2) t e 6) t e b else pSum (pAtom (alK 2) t e 6) t e b) (fun cs b2 => if lk t e b2 < e then .inr (1, lk t e b2) else .inl ((k, cs), lk t e b2)))
/-- what is asked, over the persons -/
def asR (P : Pl) (s : St) (k : Nat) (cs : List Nat) : Nat → Int
  | 0 => if 2 ≤ k then 0 else -1
  | p + 1 => tkS k (asR P s k cs p) (decide (p = 0)) (evV (zPt s p 0 0) (lkA P s p) cs) p
def opAsk (Z : Wd) : Int64 × Wd := if plC (wP Z) = 0 then (lI (-1000000000000000), putT Z (wTp Z) 0) else match pAsk (wTp Z) (wTn Z) with
  | .inl q => (lI (asR (wP Z) (wS Z) q.1.1 q.1.2 (nP (wP Z))), ((wTp Z, 0), (nI 0, M1), Z.2.2))
  | .inr q => (lI (-1000000000000000), ((wTp Z, 0), (nI q.1, nI q.2), Z.2.2))
theorem ml_qKind {σ : FS} {t : Nat → Nat} {e a : Nat} {Q : Int32 → FS → Prop} (h : Tok σ t e a) (ho : ∀ k b, pKind t e a = .inl (k, b) → k < 6 → ∀ σ', FT σ σ' → Tok σ' t e b → Q (nI k) σ') (hx : ∀ q, pKind t e a = .inr q → ∀ σ' r, FT σ σ' → Bd σ' q → Q r σ') : mw_qKind σ Q := by
  have hll := lk_lk (t := t) h.2.2.1
  unfold mw_qKind
  have y : ∀ k, k < 5 → ∀ σ1, Q (nI k) σ1 → mw_qKind_76 (nI k) σ1 Q := fun k hk σ1 hq => ⟨fun _ => hq, fun z => by
    have z2 : nI k = nI 5 := z
    simp (disch := omega) only [nI_eq] at z2
    omega⟩
  unfold pKind at ho hx
  refine ml_takes (k := 79) h (by unfold mok; decide) (by decide) (by decide) (fun σ1 hw hF1 hT1 => ⟨fun z => absurd z (by decide), fun _ => y 0 (by decide) σ1 ?_⟩) (fun σ1 n1 hF1 hT1 => ⟨fun _ => ?_, fun z => absurd rfl z⟩)
  · rw [if_pos (isW_iff.mpr hw)] at ho
    exact ho _ _ rfl (by decide) σ1 hF1 hT1
  rw [if_neg (fun z => n1 (isW_iff.mp z))] at ho hx
  refine ml_takes (k := 80) hT1 (by unfold mok; decide) (by decide) (by decide) (fun σ2 hw hF2 hT2 => ⟨fun z => absurd z (by decide), fun _ => y 1 (by decide) σ2 ?_⟩) (fun σ2 n2 hF2 hT2 => ⟨fun _ => ?_, fun z => absurd rfl z⟩)
  · rw [hll] at hw hT2
    rw [if_pos (isW_iff.mpr hw)] at ho
    exact ho _ _ rfl (by decide) σ2 (hF1.trans hF2) hT2
  rw [hll] at n2 hT2
  rw [if_neg (fun z => n2 (isW_iff.mp z))] at ho hx
  refine ml_takes (k := 81) hT2 (by unfold mok; decide) (by decide) (by decide) (fun σ3 hw hF3 hT3 => ⟨fun z => absurd z (by decide), fun _ => y 2 (by decide) σ3 ?_⟩) (fun σ3 n3 hF3 hT3 => ⟨fun _ => ?_, fun z => absurd rfl z⟩)
  · rw [hll] at hw hT3
    rw [if_pos (isW_iff.mpr hw)] at ho
    exact ho _ _ rfl (by decide) σ3 (hF1.trans (hF2.trans hF3)) hT3
  rw [hll] at n3 hT3
  rw [if_neg (fun z => n3 (isW_iff.mp z))] at ho hx
  refine ml_takes (k := 82) hT3 (by unfold mok; decide) (by decide) (by decide) (fun σ4 hw hF4 hT4 => ⟨fun z => absurd z (by decide), fun _ => y 3 (by decide) σ4 ?_⟩) (fun σ4 n4 hF4 hT4 => ⟨fun _ => ?_, fun z => absurd rfl z⟩)
  · rw [hll] at hw hT4
    rw [if_pos (isW_iff.mpr hw)] at ho
    exact ho _ _ rfl (by decide) σ4 (hF1.trans (hF2.trans (hF3.trans hF4))) hT4
  rw [hll] at n4 hT4
  rw [if_neg (fun z => n4 (isW_iff.mp z))] at ho hx
  refine ml_takes (k := 83) hT4 (by unfold mok; decide) (by decide) (by decide) (fun σ5 hw hF5 hT5 => ⟨fun z => absurd z (by decide), fun _ => y 4 (by decide) σ5 ?_⟩) (fun σ5 n5 hF5 hT5 => ⟨fun _ => ?_, fun z => absurd rfl z⟩)
  · rw [hll] at hw hT5
    rw [if_pos (isW_iff.mpr hw)] at ho
    exact ho _ _ rfl (by decide) σ5 (hF1.trans (hF2.trans (hF3.trans (hF4.trans hF5)))) hT5
  rw [hll] at n5 hT5
  rw [if_neg (fun z => n5 (isW_iff.mp z))] at ho hx
  have hF05 : FT σ σ5 := hF1.trans (hF2.trans (hF3.trans (hF4.trans hF5)))
  refine ⟨fun z => absurd rfl z, fun _ => ml_needs (k := 84) hT5 (by unfold mok; decide) (by decide) (by decide) (fun b σ6 hp hF6 hT6 => ho 5 b (by rw [hp]; rfl) (by decide) σ6 (hF05.trans hF6) hT6) (fun q σ6 hp hF6 hB6 => hx q (by rw [hp]; rfl) σ6 _ (hF05.trans hF6) hB6)⟩
def Fl (σ σ' : FS) : Prop := (∀ k, k ≠ 111 → fI σ' 0 k = fI σ 0 k) ∧ fA σ' = fA σ ∧ fB σ' = fB σ ∧ fL σ' 0 78 = fL σ 0 78
theorem ml_qTakes {σ : FS} {k p : Nat} {acc v : Int} {first : Bool} {Q : FS → Prop} (hk : k < 6) (hp : p < 8) (ha : fL σ 0 110 = lI acc) (hab : -1000000000 ≤ acc ∧ acc ≤ 1000000000) (hv : -1000000 ≤ v ∧ v ≤ 1000000) (hf : fI σ 0 111 = nI (if first = true then 1 else 0)) (hQ : ∀ σ', Fl σ σ' → fL σ' 0 110 = lI (tkS k acc first v p) → fI σ' 0 111 = nI 0 → Q σ') : mw_qTakes (nI k) (lI v) (nI p) σ Q := by
  have keep : acc = tkS k acc first v p → mw_qTakes_133 σ Q := by
    intro he
    unfold mw_qTakes_133
    simp only [forall_eq]
    refine hQ _ ⟨fun k hk => by rw [fI_sI, if_neg (by omega)], rfl, rfl, rfl⟩ ?_ (by rw [fI_sI, if_pos ⟨rfl, rfl⟩]; rfl)
    rw [← he]; exact ha
  have put : ∀ z, z = tkS k acc first v p → mw_qTakes_133 (sL σ 0 110 (lI z)) Q := by
    intro z he
    unfold mw_qTakes_133
    simp only [forall_eq]
    refine hQ _ ⟨fun k hk => by rw [fI_sI, if_neg (by omega), fI_sL], rfl, rfl, ?_⟩ ?_ (by rw [fI_sI, if_pos ⟨rfl, rfl⟩]; rfl)
    · rw [fL_sI, fL_sL, if_neg (by decide)]
    · rw [fL_sI, fL_sL, if_pos ⟨rfl, rfl⟩, he]
  have hkk : k = 0 ∨ k = 1 ∨ k = 2 ∨ k = 3 ∨ k = 4 ∨ k = 5 := by omega
  unfold mw_qTakes mw_qTakes_15 mw_qTakes_16 mw_qTakes_38 mw_qTakes_48 mw_qTakes_55 mw_qTakes_75 mw_qTakes_90 mw_qTakes_128
  rcases hkk with rfl | rfl | rfl | rfl | rfl | rfl
  · simp (disch := omega) only [i_0, i_1, i_2, i_3, i_4, i_5, i_6, i_7, i_8, i_9, i_10, i_11, i_12, i_13, i_16, i_19, i_20, i_21, i_22, i_23, i_24, i_25, i_30, i_31, i_32, i_39, i_40, i_41, i_42, i_43, i_44, i_45, i_47, i_48, i_49, i_50, i_51, i_52, i_57, i_59, i_60, i_61, i_62, i_63, i_64, i_71, i_72, i_80, i_91, i_93, i_97, i_99, i_100, i_122, i_227, i_228, i_232, i_251, i_255, i_256, i_463, i_999, i_1000, i_1519, i_1600, i_9999, i_100000000, i_2147483639, i_2147483647, neg_nI1, nI_add, pk_mul, nI_remL, pk_sub, pk_div, nI_clamp, nI_leI, nI_ltI, nI_eq, vpT, nI_m1, m1_nI, nI_lem1, m1_le, m1_lt, nI_ltm1, nI_bit, nI_shl, nI_xor, nI_or, n_rem, l_0, l_1, l_9, l_27, l_64, l_12345, l_1000000, l_1103515245, l_2147483648, l_1000000000000000, lI_neg, lI_add, lI_sub, lI_mul, lgc_le, lgc_ge, lgc_eq, lgc_lt, lgc_gt, nI_toL, lI_toI, forall_eq, true_and, and_true, implies_true, true_implies, false_implies, not_true_eq_false, not_false_eq_true, Nat.zero_add, Nat.add_zero, ite_true, ite_false, if_true, if_false, true_or, or_true, false_or, or_false, and_self, and_false, false_and, Nat.reduceEqDiff, reduceIte, ha, lI_eq, Nat.reduceLeDiff]
    exact ⟨fun hv1 => keep (by unfold tkS; simp [hv1]), fun hv1 => ⟨fun hc => put _ (by unfold tkS; simp [hv1, hc]), fun hc => keep (by unfold tkS; simp [hc])⟩⟩
  · simp (disch := omega) only [i_0, i_1, i_2, i_3, i_4, i_5, i_6, i_7, i_8, i_9, i_10, i_11, i_12, i_13, i_16, i_19, i_20, i_21, i_22, i_23, i_24, i_25, i_30, i_31, i_32, i_39, i_40, i_41, i_42, i_43, i_44, i_45, i_47, i_48, i_49, i_50, i_51, i_52, i_57, i_59, i_60, i_61, i_62, i_63, i_64, i_71, i_72, i_80, i_91, i_93, i_97, i_99, i_100, i_122, i_227, i_228, i_232, i_251, i_255, i_256, i_463, i_999, i_1000, i_1519, i_1600, i_9999, i_100000000, i_2147483639, i_2147483647, neg_nI1, nI_add, pk_mul, nI_remL, pk_sub, pk_div, nI_clamp, nI_leI, nI_ltI, nI_eq, vpT, nI_m1, m1_nI, nI_lem1, m1_le, m1_lt, nI_ltm1, nI_bit, nI_shl, nI_xor, nI_or, n_rem, l_0, l_1, l_9, l_27, l_64, l_12345, l_1000000, l_1103515245, l_2147483648, l_1000000000000000, lI_neg, lI_add, lI_sub, lI_mul, lgc_le, lgc_ge, lgc_eq, lgc_lt, lgc_gt, nI_toL, lI_toI, forall_eq, true_and, and_true, implies_true, true_implies, false_implies, not_true_eq_false, not_false_eq_true, Nat.zero_add, Nat.add_zero, ite_true, ite_false, if_true, if_false, true_or, or_true, false_or, or_false, and_self, and_false, false_and, Nat.reduceEqDiff, reduceIte, ha, lI_eq, Nat.reduceLeDiff]
    exact ⟨fun hv1 => keep (by unfold tkS; simp [hv1]), fun hv1 => put _ (by unfold tkS; simp [hv1])⟩
  · simp (disch := omega) only [i_0, i_1, i_2, i_3, i_4, i_5, i_6, i_7, i_8, i_9, i_10, i_11, i_12, i_13, i_16, i_19, i_20, i_21, i_22, i_23, i_24, i_25, i_30, i_31, i_32, i_39, i_40, i_41, i_42, i_43, i_44, i_45, i_47, i_48, i_49, i_50, i_51, i_52, i_57, i_59, i_60, i_61, i_62, i_63, i_64, i_71, i_72, i_80, i_91, i_93, i_97, i_99, i_100, i_122, i_227, i_228, i_232, i_251, i_255, i_256, i_463, i_999, i_1000, i_1519, i_1600, i_9999, i_100000000, i_2147483639, i_2147483647, neg_nI1, nI_add, pk_mul, nI_remL, pk_sub, pk_div, nI_clamp, nI_leI, nI_ltI, nI_eq, vpT, nI_m1, m1_nI, nI_lem1, m1_le, m1_lt, nI_ltm1, nI_bit, nI_shl, nI_xor, nI_or, n_rem, l_0, l_1, l_9, l_27, l_64, l_12345, l_1000000, l_1103515245, l_2147483648, l_1000000000000000, lI_neg, lI_add, lI_sub, lI_mul, lgc_le, lgc_ge, lgc_eq, lgc_lt, lgc_gt, nI_toL, lI_toI, forall_eq, true_and, and_true, implies_true, true_implies, false_implies, not_true_eq_false, not_false_eq_true, Nat.zero_add, Nat.add_zero, ite_true, ite_false, if_true, if_false, true_or, or_true, false_or, or_false, and_self, and_false, false_and, Nat.reduceEqDiff, reduceIte, ha, lI_eq, Nat.reduceLeDiff]
    exact ⟨fun hv1 => keep (by unfold tkS; simp [hv1]), fun hv1 => put _ (by unfold tkS; simp [hv1])⟩
  · simp (disch := omega) only [i_0, i_1, i_2, i_3, i_4, i_5, i_6, i_7, i_8, i_9, i_10, i_11, i_12, i_13, i_16, i_19, i_20, i_21, i_22, i_23, i_24, i_25, i_30, i_31, i_32, i_39, i_40, i_41, i_42, i_43, i_44, i_45, i_47, i_48, i_49, i_50, i_51, i_52, i_57, i_59, i_60, i_61, i_62, i_63, i_64, i_71, i_72, i_80, i_91, i_93, i_97, i_99, i_100, i_122, i_227, i_228, i_232, i_251, i_255, i_256, i_463, i_999, i_1000, i_1519, i_1600, i_9999, i_100000000, i_2147483639, i_2147483647, neg_nI1, nI_add, pk_mul, nI_remL, pk_sub, pk_div, nI_clamp, nI_leI, nI_ltI, nI_eq, vpT, nI_m1, m1_nI, nI_lem1, m1_le, m1_lt, nI_ltm1, nI_bit, nI_shl, nI_xor, nI_or, n_rem, l_0, l_1, l_9, l_27, l_64, l_12345, l_1000000, l_1103515245, l_2147483648, l_1000000000000000, lI_neg, lI_add, lI_sub, lI_mul, lgc_le, lgc_ge, lgc_eq, lgc_lt, lgc_gt, nI_toL, lI_toI, forall_eq, true_and, and_true, implies_true, true_implies, false_implies, not_true_eq_false, not_false_eq_true, Nat.zero_add, Nat.add_zero, ite_true, ite_false, if_true, if_false, true_or, or_true, false_or, or_false, and_self, and_false, false_and, Nat.reduceEqDiff, reduceIte, ha, lI_eq, Nat.reduceLeDiff]
    exact put _ (by unfold tkS; simp)
  · simp (disch := omega) only [i_0, i_1, i_2, i_3, i_4, i_5, i_6, i_7, i_8, i_9, i_10, i_11, i_12, i_13, i_16, i_19, i_20, i_21, i_22, i_23, i_24, i_25, i_30, i_31, i_32, i_39, i_40, i_41, i_42, i_43, i_44, i_45, i_47, i_48, i_49, i_50, i_51, i_52, i_57, i_59, i_60, i_61, i_62, i_63, i_64, i_71, i_72, i_80, i_91, i_93, i_97, i_99, i_100, i_122, i_227, i_228, i_232, i_251, i_255, i_256, i_463, i_999, i_1000, i_1519, i_1600, i_9999, i_100000000, i_2147483639, i_2147483647, neg_nI1, nI_add, pk_mul, nI_remL, pk_sub, pk_div, nI_clamp, nI_leI, nI_ltI, nI_eq, vpT, nI_m1, m1_nI, nI_lem1, m1_le, m1_lt, nI_ltm1, nI_bit, nI_shl, nI_xor, nI_or, n_rem, l_0, l_1, l_9, l_27, l_64, l_12345, l_1000000, l_1103515245, l_2147483648, l_1000000000000000, lI_neg, lI_add, lI_sub, lI_mul, lgc_le, lgc_ge, lgc_eq, lgc_lt, lgc_gt, nI_toL, lI_toI, forall_eq, true_and, and_true, implies_true, true_implies, false_implies, not_true_eq_false, not_false_eq_true, Nat.zero_add, Nat.add_zero, ite_true, ite_false, if_true, if_false, true_or, or_true, false_or, or_false, and_self, and_false, false_and, Nat.reduceEqDiff, reduceIte, ha, lI_eq, hf, lI_le, Nat.reduceLeDiff]
    cases first with
    | true => exact ⟨fun _ => put _ (by unfold tkS; simp), fun z => absurd z (by decide)⟩
    | false => exact ⟨fun z => absurd rfl z, fun _ => ⟨fun z => keep (by unfold tkS; simp; omega), fun z => put _ (by unfold tkS; simp; omega)⟩⟩
  · simp (disch := omega) only [i_0, i_1, i_2, i_3, i_4, i_5, i_6, i_7, i_8, i_9, i_10, i_11, i_12, i_13, i_16, i_19, i_20, i_21, i_22, i_23, i_24, i_25, i_30, i_31, i_32, i_39, i_40, i_41, i_42, i_43, i_44, i_45, i_47, i_48, i_49, i_50, i_51, i_52, i_57, i_59, i_60, i_61, i_62, i_63, i_64, i_71, i_72, i_80, i_91, i_93, i_97, i_99, i_100, i_122, i_227, i_228, i_232, i_251, i_255, i_256, i_463, i_999, i_1000, i_1519, i_1600, i_9999, i_100000000, i_2147483639, i_2147483647, neg_nI1, nI_add, pk_mul, nI_remL, pk_sub, pk_div, nI_clamp, nI_leI, nI_ltI, nI_eq, vpT, nI_m1, m1_nI, nI_lem1, m1_le, m1_lt, nI_ltm1, nI_bit, nI_shl, nI_xor, nI_or, n_rem, l_0, l_1, l_9, l_27, l_64, l_12345, l_1000000, l_1103515245, l_2147483648, l_1000000000000000, lI_neg, lI_add, lI_sub, lI_mul, lgc_le, lgc_ge, lgc_eq, lgc_lt, lgc_gt, nI_toL, lI_toI, forall_eq, true_and, and_true, implies_true, true_implies, false_implies, not_true_eq_false, not_false_eq_true, Nat.zero_add, Nat.add_zero, ite_true, ite_false, if_true, if_false, true_or, or_true, false_or, or_false, and_self, and_false, false_and, Nat.reduceEqDiff, reduceIte, ha, lI_eq, hf, lI_le, Nat.reduceLeDiff]
    cases first with
    | true => exact ⟨fun _ => put _ (by unfold tkS; simp), fun z => absurd z (by decide)⟩
    | false => exact ⟨fun z => absurd rfl z, fun _ => ⟨fun z => keep (by unfold tkS; simp; omega), fun z => put _ (by unfold tkS; simp; omega)⟩⟩
