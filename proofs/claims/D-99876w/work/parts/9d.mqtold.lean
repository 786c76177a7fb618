/-! THE REFERENCE: what is asked, told -/
theorem ml_partOf2 {σ : FS} {P : Pl} {s : St} {p t sd k : Nat} {x : Int32} {Q : Int64 → FS → Prop} (hP : mP σ P) (hN : mN σ P s) (hA : fI σ 0 54 = nI p) (hp : p < nP P) (hk : al2 k = true) (hk9 : k < 9) (hQ : Q (lI (zPt s p t sd k)) σ) : mw_qPartOf (nI k) x σ Q := by
  have h7 := hP.1.2.2.2.2.1
  have h5 := hP.1.2.2.2.1
  obtain ⟨hcell, hti, hkn⟩ := hN.1.2.2.1 p hp
  have hh := hN.1.2.1 _ hcell
  have hd := hN.1.1
  have hlt := isC_lt hP.1 hcell
  have h72 := c7_lt hP.1 hcell
  have hk32 : zK s p < 128 := Nat.lt_of_lt_of_le hkn (Nat.le_trans (Nat.pow_le_pow_right (by decide) h5) (by decide))
  have hpc := popc_le _ hk32
  unfold mw_qPartOf
  rw [hA]
  have hcc : k = 0 ∨ k = 1 ∨ k = 2 ∨ k = 3 ∨ k = 6 ∨ k = 7 ∨ k = 8 := by unfold al2 at hk; rw [decide_eq_true_iff] at hk; omega
  rcases hcc with rfl | rfl | rfl | rfl | rfl | rfl | rfl <;> simp (disch := omega) only [i_0, i_1, i_2, i_3, i_4, i_5, i_6, i_7, i_8, i_9, i_10, i_11, i_12, i_13, i_16, i_19, i_20, i_21, i_22, i_23, i_24, i_25, i_30, i_31, i_32, i_39, i_40, i_41, i_42, i_43, i_44, i_45, i_47, i_48, i_49, i_50, i_51, i_52, i_57, i_59, i_60, i_61, i_62, i_63, i_64, i_71, i_72, i_80, i_91, i_93, i_97, i_99, i_100, i_122, i_227, i_228, i_232, i_251, i_255, i_256, i_463, i_999, i_1000, i_1519, i_1600, i_9999, i_100000000, i_2147483639, i_2147483647, neg_nI1, nI_add, pk_mul, nI_remL, pk_sub, pk_div, nI_clamp, nI_leI, nI_ltI, nI_eq, vpT, nI_m1, m1_nI, nI_lem1, m1_le, m1_lt, nI_ltm1, nI_bit, nI_shl, nI_xor, nI_or, n_rem, l_0, l_1, l_9, l_27, l_64, l_12345, l_1000000, l_1103515245, l_2147483648, l_1000000000000000, lI_neg, lI_add, lI_sub, lI_mul, lgc_le, lgc_ge, lgc_eq, lgc_lt, lgc_gt, nI_toL, lI_toI, forall_eq, true_and, and_true, implies_true, true_implies, false_implies, not_true_eq_false, not_false_eq_true, Nat.zero_add, Nat.add_zero, ite_true, ite_false, if_true, if_false, true_or, or_true, false_or, or_false, and_self, and_false, false_and, Nat.reduceEqDiff, reduceIte, Nat.reduceEqDiff]
  · refine ml_tiredOf hP hN hp ?_
    rw [nI_toL (by omega)]; exact hQ
  · refine ml_cellOf hP hN hp (ml_heightOf hP hN hcell ?_)
    rw [nI_toL (by omega)]; exact hQ
  · refine ml_knowsOf hP hN hp (ml_bits hk32 ?_)
    rw [nI_toL (by omega)]; exact hQ
  · rw [hN.2.1, nI_toL (by omega)]; exact hQ
  · exact hQ
  · refine ml_cellOf hP hN hp ?_
    simp (disch := omega) only [i_0, i_1, i_2, i_3, i_4, i_5, i_6, i_7, i_8, i_9, i_10, i_11, i_12, i_13, i_16, i_19, i_20, i_21, i_22, i_23, i_24, i_25, i_30, i_31, i_32, i_39, i_40, i_41, i_42, i_43, i_44, i_45, i_47, i_48, i_49, i_50, i_51, i_52, i_57, i_59, i_60, i_61, i_62, i_63, i_64, i_71, i_72, i_80, i_91, i_93, i_97, i_99, i_100, i_122, i_227, i_228, i_232, i_251, i_255, i_256, i_463, i_999, i_1000, i_1519, i_1600, i_9999, i_100000000, i_2147483639, i_2147483647, neg_nI1, nI_add, pk_mul, nI_remL, pk_sub, pk_div, nI_clamp, nI_leI, nI_ltI, nI_eq, vpT, nI_m1, m1_nI, nI_lem1, m1_le, m1_lt, nI_ltm1, nI_bit, nI_shl, nI_xor, nI_or, n_rem, l_0, l_1, l_9, l_27, l_64, l_12345, l_1000000, l_1103515245, l_2147483648, l_1000000000000000, lI_neg, lI_add, lI_sub, lI_mul, lgc_le, lgc_ge, lgc_eq, lgc_lt, lgc_gt, nI_toL, lI_toI]
    rw [c7_mod hlt.1]; exact hQ
  · refine ml_cellOf hP hN hp ?_
    simp (disch := omega) only [i_0, i_1, i_2, i_3, i_4, i_5, i_6, i_7, i_8, i_9, i_10, i_11, i_12, i_13, i_16, i_19, i_20, i_21, i_22, i_23, i_24, i_25, i_30, i_31, i_32, i_39, i_40, i_41, i_42, i_43, i_44, i_45, i_47, i_48, i_49, i_50, i_51, i_52, i_57, i_59, i_60, i_61, i_62, i_63, i_64, i_71, i_72, i_80, i_91, i_93, i_97, i_99, i_100, i_122, i_227, i_228, i_232, i_251, i_255, i_256, i_463, i_999, i_1000, i_1519, i_1600, i_9999, i_100000000, i_2147483639, i_2147483647, neg_nI1, nI_add, pk_mul, nI_remL, pk_sub, pk_div, nI_clamp, nI_leI, nI_ltI, nI_eq, vpT, nI_m1, m1_nI, nI_lem1, m1_le, m1_lt, nI_ltm1, nI_bit, nI_shl, nI_xor, nI_or, n_rem, l_0, l_1, l_9, l_27, l_64, l_12345, l_1000000, l_1103515245, l_2147483648, l_1000000000000000, lI_neg, lI_add, lI_sub, lI_mul, lgc_le, lgc_ge, lgc_eq, lgc_lt, lgc_gt, nI_toL, lI_toI]
    rw [c7_div hlt.1]; exact hQ
/-- knows and lifts, of a topic -/
def lkA (P : Pl) (s : St) (p : Nat) (k : Nat) (v : Int) : Int := if 0 ≤ v ∧ v < (nT P : Int) then (if k = 0 then ((zK s p / 2 ^ v.toNat % 2 : Nat) : Int) else ((zAm P 0 s p v.toNat : Nat) : Int)) else 0
def LfA (σ : FS) (P : Pl) (s : St) : Prop := ∀ p t, p < nP P → t < nT P → fA σ 61 (5 * p + t) = nI (zAm P 0 s p t) ∧ zAm P 0 s p t ≤ 1000
theorem ml_isTopicL {σ : FS} {P : Pl} {v : Int} {Q : Int32 → FS → Prop} (hP : mP σ P) (hv : -1000000 ≤ v ∧ v ≤ 1000000) (hs : 0 ≤ v ∧ v < (nT P : Int) → Q (nI 1) σ) (hn : ¬ (0 ≤ v ∧ v < (nT P : Int)) → Q (nI 0) σ) : mw_isTopic (lI v) σ Q := by
  have h5 := hP.1.2.2.2.1
  have e1 : (nI (nT P) - 1).toInt64 = lI ((nT P : Int) - 1) := by
    refine Int64.toInt_inj.mp ?_
    rw [nIm1_toInt (by omega), lI_toInt (by omega) (by omega)]
  unfold mw_isTopic mw_topicMany mw_isIn
  simp (disch := omega) only [i_0, i_1, i_2, i_3, i_4, i_5, i_6, i_7, i_8, i_9, i_10, i_11, i_12, i_13, i_16, i_19, i_20, i_21, i_22, i_23, i_24, i_25, i_30, i_31, i_32, i_39, i_40, i_41, i_42, i_43, i_44, i_45, i_47, i_48, i_49, i_50, i_51, i_52, i_57, i_59, i_60, i_61, i_62, i_63, i_64, i_71, i_72, i_80, i_91, i_93, i_97, i_99, i_100, i_122, i_227, i_228, i_232, i_251, i_255, i_256, i_463, i_999, i_1000, i_1519, i_1600, i_9999, i_100000000, i_2147483639, i_2147483647, neg_nI1, nI_add, pk_mul, nI_remL, pk_sub, pk_div, nI_clamp, nI_leI, nI_ltI, nI_eq, vpT, nI_m1, m1_nI, nI_lem1, m1_le, m1_lt, nI_ltm1, nI_bit, nI_shl, nI_xor, nI_or, n_rem, forall_eq, true_and, and_true, implies_true, true_implies, false_implies, not_true_eq_false, not_false_eq_true, Nat.zero_add, Nat.add_zero, ite_true, ite_false, if_true, if_false, true_or, or_true, false_or, or_false, and_self, and_false, false_and, Nat.reduceEqDiff, reduceIte]
  rw [hP.2.2.2.1.1]
  have e2 : (nI (nT P) - nI 1).toInt64 = lI ((nT P : Int) - 1) := e1
  rw [e2]
  simp (disch := omega) only [i_0, i_1, i_2, i_3, i_4, i_5, i_6, i_7, i_8, i_9, i_10, i_11, i_12, i_13, i_16, i_19, i_20, i_21, i_22, i_23, i_24, i_25, i_30, i_31, i_32, i_39, i_40, i_41, i_42, i_43, i_44, i_45, i_47, i_48, i_49, i_50, i_51, i_52, i_57, i_59, i_60, i_61, i_62, i_63, i_64, i_71, i_72, i_80, i_91, i_93, i_97, i_99, i_100, i_122, i_227, i_228, i_232, i_251, i_255, i_256, i_463, i_999, i_1000, i_1519, i_1600, i_9999, i_100000000, i_2147483639, i_2147483647, neg_nI1, nI_add, pk_mul, nI_remL, pk_sub, pk_div, nI_clamp, nI_leI, nI_ltI, nI_eq, vpT, nI_m1, m1_nI, nI_lem1, m1_le, m1_lt, nI_ltm1, nI_bit, nI_shl, nI_xor, nI_or, n_rem, l_0, l_1, l_9, l_27, l_64, l_12345, l_1000000, l_1103515245, l_2147483648, l_1000000000000000, lI_neg, lI_add, lI_sub, lI_mul, lgc_le, lgc_ge, lgc_eq, lgc_lt, lgc_gt, nI_toL, lI_toI, forall_eq, true_and, and_true, implies_true, true_implies, false_implies, not_true_eq_false, not_false_eq_true, Nat.zero_add, Nat.add_zero, ite_true, ite_false, if_true, if_false, true_or, or_true, false_or, or_false, and_self, and_false, false_and, Nat.reduceEqDiff, reduceIte, lI_lt, lI_le]
  exact ⟨fun z => ⟨nb_0, hn (by omega)⟩, fun z => ⟨fun z2 => ⟨nb_0, hn (by omega)⟩, fun z2 => ⟨nb_1, hs (by omega)⟩⟩⟩
theorem ml_qOf {σ : FS} {P : Pl} {s : St} {p k : Nat} {v : Int} {Q : Int64 → FS → Prop} (hP : mP σ P) (hN : mN σ P s) (hL : LfA σ P s) (hp : p < nP P) (hk : k < 2) (hv : -1000000 ≤ v ∧ v ≤ 1000000) (hQ : Q (lI (lkA P s p k v)) σ) : mw_qOf (nI k) (lI v) (nI p) σ Q := by
  have h5 := hP.1.2.2.2.1
  have h7 := hP.1.2.2.2.2.1
  have hkn := (hN.1.2.2.1 p hp).2.2
  have hk32 : zK s p < 128 := Nat.lt_of_lt_of_le hkn (Nat.le_trans (Nat.pow_le_pow_right (by decide) h5) (by decide))
  have no : ¬ (0 ≤ v ∧ v < (nT P : Int)) → Q 0 σ := fun z => by unfold lkA at hQ; rw [if_neg z] at hQ; exact hQ
  unfold mw_qOf
  have hkk : k = 0 ∨ k = 1 := by omega
  rcases hkk with rfl | rfl
  · refine ⟨fun _ => ml_isTopicL hP hv (fun hz => ⟨fun z => absurd z (by decide), fun _ => ?_⟩) (fun hz => ⟨fun _ => no hz, fun z => absurd rfl z⟩), fun z => absurd rfl z⟩
    refine ml_knowsOf hP hN hp ?_
    rw [lI_toI (by omega) (by omega)]
    have hb : zK s p / 2 ^ v.toNat % 2 < 2 := Nat.mod_lt _ (by decide)
    simp (disch := omega) only [i_0, i_1, i_2, i_3, i_4, i_5, i_6, i_7, i_8, i_9, i_10, i_11, i_12, i_13, i_16, i_19, i_20, i_21, i_22, i_23, i_24, i_25, i_30, i_31, i_32, i_39, i_40, i_41, i_42, i_43, i_44, i_45, i_47, i_48, i_49, i_50, i_51, i_52, i_57, i_59, i_60, i_61, i_62, i_63, i_64, i_71, i_72, i_80, i_91, i_93, i_97, i_99, i_100, i_122, i_227, i_228, i_232, i_251, i_255, i_256, i_463, i_999, i_1000, i_1519, i_1600, i_9999, i_100000000, i_2147483639, i_2147483647, neg_nI1, nI_add, pk_mul, nI_remL, pk_sub, pk_div, nI_clamp, nI_leI, nI_ltI, nI_eq, vpT, nI_m1, m1_nI, nI_lem1, m1_le, m1_lt, nI_ltm1, nI_bit, nI_shl, nI_xor, nI_or, n_rem, forall_eq, true_and, and_true, implies_true, true_implies, false_implies, not_true_eq_false, not_false_eq_true, Nat.zero_add, Nat.add_zero, ite_true, ite_false, if_true, if_false, true_or, or_true, false_or, or_false, and_self, and_false, false_and, Nat.reduceEqDiff, reduceIte]
    unfold lkA at hQ
    rw [if_pos hz, if_pos rfl] at hQ
    refine ⟨fun z => ?_, fun z => ?_⟩
    · rw [show zK s p / 2 ^ v.toNat % 2 = 0 by omega] at hQ; exact hQ
    · rw [z] at hQ; exact hQ
  · refine ⟨fun z => absurd z (by decide), fun _ => ml_isTopicL hP hv (fun hz => ⟨fun z => absurd z (by decide), fun _ => ?_⟩) (fun hz => ⟨fun _ => no hz, fun z => absurd rfl z⟩)⟩
    rw [lI_toI (by omega) (by omega)]
    obtain ⟨q1, q2⟩ := hL p v.toNat hp (by omega)
    unfold lkA at hQ
    rw [if_pos hz, if_neg (by decide)] at hQ
    simp (disch := omega) only [i_0, i_1, i_2, i_3, i_4, i_5, i_6, i_7, i_8, i_9, i_10, i_11, i_12, i_13, i_16, i_19, i_20, i_21, i_22, i_23, i_24, i_25, i_30, i_31, i_32, i_39, i_40, i_41, i_42, i_43, i_44, i_45, i_47, i_48, i_49, i_50, i_51, i_52, i_57, i_59, i_60, i_61, i_62, i_63, i_64, i_71, i_72, i_80, i_91, i_93, i_97, i_99, i_100, i_122, i_227, i_228, i_232, i_251, i_255, i_256, i_463, i_999, i_1000, i_1519, i_1600, i_9999, i_100000000, i_2147483639, i_2147483647, neg_nI1, nI_add, pk_mul, nI_remL, pk_sub, pk_div, nI_clamp, nI_leI, nI_ltI, nI_eq, vpT, nI_m1, m1_nI, nI_lem1, m1_le, m1_lt, nI_ltm1, nI_bit, nI_shl, nI_xor, nI_or, n_rem, forall_eq, true_and, and_true, implies_true, true_implies, false_implies, not_true_eq_false, not_false_eq_true, Nat.zero_add, Nat.add_zero, ite_true, ite_false, if_true, if_false, true_or, or_true, false_or, or_false, and_self, and_false, false_and, Nat.reduceEqDiff, reduceIte]
    rw [q1, nI_toL (by omega)]
    exact hQ
theorem lkA_in {P : Pl} {s : St} {p k : Nat} {v : Int} {σ : FS} (hL : LfA σ P s) (hp : p < nP P) : -1000000000000 ≤ lkA P s p k v ∧ lkA P s p k v ≤ 1000000000000 := by
  unfold lkA
  split
  · rename_i hz
    split
    · have : zK s p / 2 ^ v.toNat % 2 < 2 := Nat.mod_lt _ (by decide)
      omega
    · have := (hL p v.toNat hp (by omega)).2
      omega
  · omega
theorem clp_id {z : Int} (h : -1000000 ≤ z ∧ z ≤ 1000000) : clp z = z := by unfold clp; rw [if_neg (by omega), if_neg (by omega)]
theorem ml_qTold {σ : FS} {P : Pl} {s : St} {p : Nat} {cs : List Nat} {kd : Bool} {Q : Int64 → FS → Prop} (hP : mP σ P) (hN : mN σ P s) (hL : LfA σ P s) (h54 : fI σ 0 54 = nI p) (hp : p < nP P) (hC : Cq σ cs) (hcl : cs.length ≤ 1600) (hty : tyL al2 cs [] = some [kd]) (hQ : ∀ σ', Fm [109] [] [108] σ σ' → Q (lI (evV (zPt s p 0 0) (lkA P s p) cs)) σ') : mw_qTold (nI p) σ Q := by
  have hpt := zPt_in hP.1 hN.1 hp (show 0 < 1000 by decide) (show 0 < 1000 by decide)
  unfold mw_qTold
  simp only [forall_eq]
  unfold mw_qTold_7
  intro X hX
  have key : ∀ (rest : List Nat) (i : Nat) (k : List Bool) (l : List Int) (σ1 : FS), cs.drop i = rest → i ≤ cs.length → tyL al2 rest k = some [kd] → fitV k l → mPi σ1 l → l.length ≤ i → Fm [109] [] [108] σ σ1 → evL (zPt s p 0 0) (lkA P s p) rest l = evL (zPt s p 0 0) (lkA P s p) cs [] → X (nI p) (nI i) σ1 := by
    intro rest
    induction rest with
    | nil =>
      intro i k l σ1 hd hi hk hf hm hl hF he
      have hi2 : i = cs.length := by
        have := List.drop_eq_nil_iff.mp hd
        omega
      simp only [tyL] at hk
      cases hk
      obtain ⟨v, rfl, -⟩ := fitV_one hf
      refine hX _ _ _ ?_
      rw [hF.1 103 (by decide), hC.1]
      simp (disch := omega) only [i_0, i_1, i_2, i_3, i_4, i_5, i_6, i_7, i_8, i_9, i_10, i_11, i_12, i_13, i_16, i_19, i_20, i_21, i_22, i_23, i_24, i_25, i_30, i_31, i_32, i_39, i_40, i_41, i_42, i_43, i_44, i_45, i_47, i_48, i_49, i_50, i_51, i_52, i_57, i_59, i_60, i_61, i_62, i_63, i_64, i_71, i_72, i_80, i_91, i_93, i_97, i_99, i_100, i_122, i_227, i_228, i_232, i_251, i_255, i_256, i_463, i_999, i_1000, i_1519, i_1600, i_9999, i_100000000, i_2147483639, i_2147483647, neg_nI1, nI_add, pk_mul, nI_remL, pk_sub, pk_div, nI_clamp, nI_leI, nI_ltI, nI_eq, vpT, nI_m1, m1_nI, nI_lem1, m1_le, m1_lt, nI_ltm1, nI_bit, nI_shl, nI_xor, nI_or, n_rem, forall_eq, true_and, and_true, implies_true, true_implies, false_implies, not_true_eq_false, not_false_eq_true, Nat.zero_add, Nat.add_zero, ite_true, ite_false, if_true, if_false, true_or, or_true, false_or, or_false, and_self, and_false, false_and, Nat.reduceEqDiff, reduceIte]
      refine ⟨fun _ => ?_, fun z => absurd (show cs.length ≤ i by omega) z⟩
      have h2 : fB σ1 108 0 = lI v := hm.2.1
      rw [h2]
      have h3 := hQ σ1 hF
      unfold evV at h3
      rw [← he] at h3
      exact h3
    | cons c rest ih =>
      intro i k l σ1 hd hi hk hf hm hl hF he
      obtain ⟨g1, g2, g3⟩ := drop_cons hd
      simp only [tyL] at hk
      have e102 : fA σ1 102 i = nI c := by rw [hF.2.1 102 (by decide)]; exact hC.2 i c g1
      have hA1 : fI σ1 0 54 = nI p := (hF.1 54 (by decide)).trans h54
      have hP1 : mP σ1 P := hP.fm hF (by decide) (by decide) (by decide)
      have hN1 : mN σ1 P s := hN.eqv (hF.2.1 52 (by decide))
      have hL1 : LfA σ1 P s := by unfold LfA; rw [hF.2.1 61 (by decide)]; exact hL
      have e103 : fI σ1 0 103 = nI cs.length := by rw [hF.1 103 (by decide)]; exact hC.1
      cases hs : tyS al2 c k with
      | none => rw [hs] at hk; cases hk
      | some k1 =>
        rw [hs] at hk
        have hfit := evS_fit (lk := lkA P s p) (fun i hi _ => hpt i hi) hs hf
        have step : ∀ σ2, Fm [109] [] [108] σ1 σ2 → mPi σ2 (evS (zPt s p 0 0) (lkA P s p) c l) → X (nI p) (nI (i + 1)) σ2 := by
          intro σ2 hF2 hm2
          refine ih (i + 1) k1 _ σ2 g2 (by omega) hk hfit hm2 ?_ (hF.trans hF2) he
          have := fitV_len hfit
          have := fitV_len hf
          rcases tyS_cases hs with ⟨h1, h2, rfl⟩ | ⟨h1, h2, h3, r, rfl, rfl⟩ | ⟨h1, h2, h3, rfl⟩ | ⟨rfl, rfl⟩ | ⟨rfl, r, rfl, rfl⟩ | ⟨h1, h2, r, rfl, rfl⟩ | ⟨h1, h2, r, rfl, rfl⟩ | ⟨h1, h2, r, rfl, rfl⟩ <;> simp only [List.length_cons] at * <;> omega
        refine hX _ _ _ ?_
        unfold mw_qTold_162
        have hc11 : c < 11000 := by rcases tyS_cases hs with ⟨h1, h2, _⟩ | ⟨h1, h2, _⟩ | ⟨h1, h2, _⟩ | ⟨rfl, _⟩ | ⟨rfl, _⟩ | ⟨h1, h2, _⟩ | ⟨h1, h2, _⟩ | ⟨h1, h2, _⟩ <;> omega
        simp (disch := omega) only [i_0, i_1, i_2, i_3, i_4, i_5, i_6, i_7, i_8, i_9, i_10, i_11, i_12, i_13, i_16, i_19, i_20, i_21, i_22, i_23, i_24, i_25, i_30, i_31, i_32, i_39, i_40, i_41, i_42, i_43, i_44, i_45, i_47, i_48, i_49, i_50, i_51, i_52, i_57, i_59, i_60, i_61, i_62, i_63, i_64, i_71, i_72, i_80, i_91, i_93, i_97, i_99, i_100, i_122, i_227, i_228, i_232, i_251, i_255, i_256, i_463, i_999, i_1000, i_1519, i_1600, i_9999, i_100000000, i_2147483639, i_2147483647, neg_nI1, nI_add, pk_mul, nI_remL, pk_sub, pk_div, nI_clamp, nI_leI, nI_ltI, nI_eq, vpT, nI_m1, m1_nI, nI_lem1, m1_le, m1_lt, nI_ltm1, nI_bit, nI_shl, nI_xor, nI_or, n_rem, forall_eq, true_and, and_true, implies_true, true_implies, false_implies, not_true_eq_false, not_false_eq_true, Nat.zero_add, Nat.add_zero, ite_true, ite_false, if_true, if_false, true_or, or_true, false_or, or_false, and_self, and_false, false_and, Nat.reduceEqDiff, reduceIte, e103, e102]
        refine ⟨fun z => absurd z (by omega), fun _ => ⟨fun a1 => ⟨fun a6 => ⟨fun a2 => ⟨fun a3 => ⟨fun a4 => ?_, fun a4 => ?_⟩, fun a3 => ?_⟩, fun a2 => ?_⟩, fun a6 => ?_⟩, fun a1 => ?_⟩⟩
        · rcases tyS_cases hs with ⟨h1, h2, rfl⟩ | ⟨h1, h2, h3, r, rfl, rfl⟩ | ⟨h1, h2, h3, rfl⟩ | ⟨rfl, rfl⟩ | ⟨rfl, r, rfl, rfl⟩ | ⟨h1, h2, r, rfl, rfl⟩ | ⟨h1, h2, r, rfl, rfl⟩ | ⟨h1, h2, r, rfl, rfl⟩
          · omega
          · omega
          · omega
          · exact absurd rfl a3
          · exact absurd rfl a4
          · obtain ⟨b, l, rfl, hb, hf⟩ := fitV_1 hf
            obtain ⟨a, l, rfl, ha, hf⟩ := fitV_1 hf
            simp only [Bool.false_eq_true, if_false] at ha hb
            simp only [List.length_cons] at hl
            exact ml_joins hm (by omega) ⟨h1, by omega⟩ ha hb (fun σ2 hF2 hm2 => step σ2 hF2 (by rw [evS_op (by omega)]; exact hm2))
          · obtain ⟨b, l, rfl, hb, hf⟩ := fitV_1 hf
            obtain ⟨a, l, rfl, ha, hf⟩ := fitV_1 hf
            simp only [Bool.false_eq_true, if_false] at ha hb
            simp only [List.length_cons] at hl
            exact ml_joins hm (by omega) ⟨by omega, by omega⟩ ha hb (fun σ2 hF2 hm2 => step σ2 hF2 (by rw [evS_op (by omega)]; exact hm2))
          · obtain ⟨b, l, rfl, hb, hf⟩ := fitV_1 hf
            obtain ⟨a, l, rfl, ha, hf⟩ := fitV_1 hf
            simp only [if_true] at ha hb
            simp only [List.length_cons] at hl
            exact ml_joins hm (by omega) ⟨by omega, by omega⟩ (by omega) (by omega) (fun σ2 hF2 hm2 => step σ2 hF2 (by rw [evS_op (by omega)]; exact hm2))
        · subst a4
          rcases tyS_cases hs with ⟨h1, h2, rfl⟩ | ⟨h1, h2, h3, r, rfl, rfl⟩ | ⟨h1, h2, h3, rfl⟩ | ⟨h1, rfl⟩ | ⟨h1, r, rfl, rfl⟩ | ⟨h1, h2, r, rfl, rfl⟩ | ⟨h1, h2, r, rfl, rfl⟩ | ⟨h1, h2, r, rfl, rfl⟩ <;> try omega
          obtain ⟨a, l, rfl, ha, hf⟩ := fitV_1 hf
          obtain ⟨m0, m1, m2⟩ := hm
          simp only [List.length_cons] at hl m0
          have e1 : fI σ1 0 109 - nI 1 = nI l.length := by rw [m0, pk_sub (by omega)]; rfl
          simp (disch := omega) only [i_0, i_1, i_2, i_3, i_4, i_5, i_6, i_7, i_8, i_9, i_10, i_11, i_12, i_13, i_16, i_19, i_20, i_21, i_22, i_23, i_24, i_25, i_30, i_31, i_32, i_39, i_40, i_41, i_42, i_43, i_44, i_45, i_47, i_48, i_49, i_50, i_51, i_52, i_57, i_59, i_60, i_61, i_62, i_63, i_64, i_71, i_72, i_80, i_91, i_93, i_97, i_99, i_100, i_122, i_227, i_228, i_232, i_251, i_255, i_256, i_463, i_999, i_1000, i_1519, i_1600, i_9999, i_100000000, i_2147483639, i_2147483647, neg_nI1, nI_add, pk_mul, nI_remL, pk_sub, pk_div, nI_clamp, nI_leI, nI_ltI, nI_eq, vpT, nI_m1, m1_nI, nI_lem1, m1_le, m1_lt, nI_ltm1, nI_bit, nI_shl, nI_xor, nI_or, n_rem, forall_eq, true_and, and_true, implies_true, true_implies, false_implies, not_true_eq_false, not_false_eq_true, Nat.zero_add, Nat.add_zero, ite_true, ite_false, if_true, if_false, true_or, or_true, false_or, or_false, and_self, and_false, false_and, Nat.reduceEqDiff, reduceIte, e1, m1]
          refine step _ (Fm.sB σ1 (a := 108) _ _ (by decide)) ?_
          rw [evS_12]
          refine ⟨m0, ?_, pil_eq m2 (fun i hi => by rw [fB_sB, if_neg (by omega)])⟩
          rw [fB_sB, if_pos ⟨rfl, rfl⟩]
          show (1 : Int64) - lI a = _
          rw [l_1, lI_sub]
        · subst a3
          exact ml_puts (v := 1) hm (by omega) (fun σ2 hF2 hm2 => step σ2 hF2 (by rw [evS_13]; exact hm2))
        · rcases tyS_cases hs with ⟨h1, h2, rfl⟩ | ⟨h1, h2, h3, r, rfl, rfl⟩ | ⟨h1, h2, h3, rfl⟩ | ⟨h1, rfl⟩ | ⟨h1, r, rfl, rfl⟩ | ⟨h1, h2, r, rfl, rfl⟩ | ⟨h1, h2, r, rfl, rfl⟩ | ⟨h1, h2, r, rfl, rfl⟩ <;> try omega
          have hz := hpt (c - 40) (by omega)
          rw [pk_sub (by omega)]
          refine ml_partOf2 (t := 0) (sd := 0) hP1 hN1 hA1 hp h3 (by omega) (ml_clip (by omega) (by omega) ?_)
          rw [clp_id hz]
          exact ml_puts hm (by omega) (fun σ2 hF2 hm2 => step σ2 hF2 (by rw [evS_pt h1 (by omega)]; exact hm2))
        · rcases tyS_cases hs with ⟨h1, h2, rfl⟩ | ⟨h1, h2, h3, r, rfl, rfl⟩ | ⟨h1, h2, h3, rfl⟩ | ⟨h1, rfl⟩ | ⟨h1, r, rfl, rfl⟩ | ⟨h1, h2, r, rfl, rfl⟩ | ⟨h1, h2, r, rfl, rfl⟩ | ⟨h1, h2, r, rfl, rfl⟩ <;> try omega
          obtain ⟨a, l, rfl, ha, hf⟩ := fitV_1 hf
          simp only [Bool.false_eq_true, if_false] at ha
          obtain ⟨m0, m1, m2⟩ := hm
          simp only [List.length_cons] at hl m0
          have e1 : fI σ1 0 109 - nI 1 = nI l.length := by rw [m0, pk_sub (by omega)]; rfl
          simp (disch := omega) only [i_0, i_1, i_2, i_3, i_4, i_5, i_6, i_7, i_8, i_9, i_10, i_11, i_12, i_13, i_16, i_19, i_20, i_21, i_22, i_23, i_24, i_25, i_30, i_31, i_32, i_39, i_40, i_41, i_42, i_43, i_44, i_45, i_47, i_48, i_49, i_50, i_51, i_52, i_57, i_59, i_60, i_61, i_62, i_63, i_64, i_71, i_72, i_80, i_91, i_93, i_97, i_99, i_100, i_122, i_227, i_228, i_232, i_251, i_255, i_256, i_463, i_999, i_1000, i_1519, i_1600, i_9999, i_100000000, i_2147483639, i_2147483647, neg_nI1, nI_add, pk_mul, nI_remL, pk_sub, pk_div, nI_clamp, nI_leI, nI_ltI, nI_eq, vpT, nI_m1, m1_nI, nI_lem1, m1_le, m1_lt, nI_ltm1, nI_bit, nI_shl, nI_xor, nI_or, n_rem, forall_eq, true_and, and_true, implies_true, true_implies, false_implies, not_true_eq_false, not_false_eq_true, Nat.zero_add, Nat.add_zero, ite_true, ite_false, if_true, if_false, true_or, or_true, false_or, or_false, and_self, and_false, false_and, Nat.reduceEqDiff, reduceIte, e1, m1]
          have hb := lkA_in (k := c - 60) (v := a) hL1 hp
          refine ml_qOf hP1 hN1 hL1 hp (by omega) ha (ml_clip hb.1 hb.2 ?_)
          refine step _ (Fm.sB σ1 (a := 108) _ _ (by decide)) ?_
          rw [evS_of h1 (by omega)]
          refine ⟨m0, ?_, pil_eq m2 (fun i hi => by rw [fB_sB, if_neg (by omega)])⟩
          rw [fB_sB, if_pos ⟨rfl, rfl⟩]
        · rw [pk_sub (by omega), nI_toL (by omega)]
          exact ml_puts hm (by omega) (fun σ2 hF2 hm2 => step σ2 hF2 (by rw [evS_num (by omega)]; exact hm2))
  refine key cs 0 [] [] _ rfl (by omega) hty trivial ⟨?_, trivial⟩ (by simp) (Fm.sI σ _ (by decide)) rfl
  rw [fI_sI]; simp; rfl
