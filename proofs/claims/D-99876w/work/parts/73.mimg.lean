/-! THE REFERENCE: feed, images -/
theorem sh8 (x : BitVec 32) {j : Nat} (hj : j ≤ 24) : (x.sshiftRight j).toNat % 256 = x.toNat / 2 ^ j % 256 := by
  apply Nat.eq_of_testBit_eq
  intro i
  rw [show 256 = 2 ^ 8 from rfl, Nat.testBit_mod_two_pow, Nat.testBit_mod_two_pow, Nat.testBit_div_two_pow]
  by_cases h : i < 8
  · have e1 : (x.sshiftRight j).toNat.testBit i = (x.sshiftRight j).getLsbD i := rfl
    have e2 : x.toNat.testBit (i + j) = x.getLsbD (i + j) := rfl
    rw [e1, e2, BitVec.getLsbD_sshiftRight]
    have h1 : ¬ 32 ≤ i := by omega
    have h2 : j + i < 32 := by omega
    simp [h, h1, h2, Nat.add_comm]
  · simp [h]
theorem by_eq (y : Int32) {j : Nat} (hj : j ≤ 24) : (y >>> (nI j &&& nI 31)) &&& nI 255 = nI (y.toBitVec.toNat / 2 ^ j % 256) := by
  rw [and31 (by omega), pk_and _ 8 (by decide)]
  congr 1
  rw [Int32.toBitVec_shiftRight]
  show (y.toBitVec.sshiftRight ((nI j).toBitVec.smod 32).toNat).toNat % 256 = _
  rw [smod32 j (by omega), sh8 _ hj]
theorem ma_feed {σ : FS} {Z : Wd} {a b c d e : Int32} {Q : Int32 → FS → Prop} (h : mAll σ Z) (hQ : ∀ σ', mAll σ' (opFeed Z a b c d e).2 → Q (opFeed Z a b c d e).1 σ') : mw_feed a b c d e σ Q := by
  have hT := h.1.2.2.2.1
  have hT2 := h.1.2.2.2.2.1
  have h1 := h.2.1.1
  unfold mw_feed
  unfold opFeed at hQ
  rw [h1]
  simp (disch := omega) only [i_0, i_1, i_2, i_3, i_4, i_5, i_6, i_7, i_8, i_9, i_10, i_11, i_12, i_13, i_16, i_19, i_20, i_21, i_22, i_23, i_24, i_25, i_30, i_31, i_32, i_39, i_40, i_41, i_42, i_43, i_44, i_45, i_47, i_48, i_49, i_50, i_51, i_52, i_57, i_59, i_60, i_61, i_62, i_63, i_64, i_71, i_72, i_80, i_91, i_93, i_97, i_99, i_100, i_122, i_227, i_228, i_232, i_251, i_255, i_256, i_463, i_999, i_1000, i_1519, i_1600, i_9999, i_100000000, i_2147483639, i_2147483647, neg_nI1, nI_add, pk_mul, nI_remL, pk_sub, pk_div, nI_clamp, nI_leI, nI_ltI, nI_eq, vpT, nI_m1, m1_nI, nI_lem1, m1_le, m1_lt, nI_ltm1, nI_bit, nI_shl, nI_xor, nI_or, n_rem, forall_eq, true_and, and_true, implies_true, true_implies, false_implies, not_true_eq_false, not_false_eq_true, Nat.zero_add, Nat.add_zero, ite_true, ite_false, if_true, if_false, true_or, or_true, false_or, or_false, and_self, and_false, false_and, Nat.reduceEqDiff, reduceIte]
  refine ⟨fun z => ?_, fun z => ?_⟩
  · rw [if_neg (by omega)] at hQ
    unfold mw_feed_28
    intro X hX
    have key : ∀ j k (σ1 : FS), 20 - k = j → k ≤ 20 → Fm [1] [0] [] σ σ1 → fI σ1 0 1 = nI (wTn Z + k) → (∀ i, i < 1600 → fA σ1 0 i = nI (if wTn Z ≤ i ∧ i < wTn Z + k then byS a b c d e (i - wTn Z) else wTp Z i)) → X a b c d e (nI k) σ1 := by
      intro j
      induction j with
      | zero =>
        intro k σ1 hj hk hF f1 hb
        have hk20 : k = 20 := by omega
        subst hk20
        refine hX _ _ _ _ _ _ _ ?_
        rw [i_20]
        refine ⟨fun _ => ?_, fun z => absurd ((nI_leI (by omega) (by omega)).mpr (by omega)) z⟩
        rw [f1]
        exact hQ σ1 (h.tape hF (by omega) (fun i => by
          show (if wTn Z ≤ i ∧ i < wTn Z + 20 then byS a b c d e (i - wTn Z) else wTp Z i) < 256
          split
          · exact Nat.mod_lt _ (by decide)
          · exact hT2 i) f1 hb)
      | succ j ih =>
        intro k σ1 hj hk hF f1 hb
        have put : ∀ y : Int32, y.toBitVec.toNat / 2 ^ (8 * (3 - k % 4)) % 256 = byS a b c d e k → mw_feed_81 X a b c d e (nI k) y σ1 Q := by
          intro y hy
          unfold mw_feed_81
          rw [f1]
          simp (disch := omega) only [i_0, i_1, i_2, i_3, i_4, i_5, i_6, i_7, i_8, i_9, i_10, i_11, i_12, i_13, i_16, i_19, i_20, i_21, i_22, i_23, i_24, i_25, i_30, i_31, i_32, i_39, i_40, i_41, i_42, i_43, i_44, i_45, i_47, i_48, i_49, i_50, i_51, i_52, i_57, i_59, i_60, i_61, i_62, i_63, i_64, i_71, i_72, i_80, i_91, i_93, i_97, i_99, i_100, i_122, i_227, i_228, i_232, i_251, i_255, i_256, i_463, i_999, i_1000, i_1519, i_1600, i_9999, i_100000000, i_2147483639, i_2147483647, neg_nI1, nI_add, pk_mul, nI_remL, pk_sub, pk_div, nI_clamp, nI_leI, nI_ltI, nI_eq, vpT, nI_m1, m1_nI, nI_lem1, m1_le, m1_lt, nI_ltm1, nI_bit, nI_shl, nI_xor, nI_or, n_rem, forall_eq, true_and, and_true, implies_true, true_implies, false_implies, not_true_eq_false, not_false_eq_true, Nat.zero_add, Nat.add_zero, ite_true, ite_false, if_true, if_false, true_or, or_true, false_or, or_false, and_self, and_false, false_and, Nat.reduceEqDiff, reduceIte, fI_sI, fI_sL, fI_sA, fI_sB, fL_sI, fL_sL, fL_sA, fL_sB, fA_sI, fA_sL, fA_sA, fA_sB, fB_sI, fB_sL, fB_sA, fB_sB]
          rw [by_eq y (by omega), hy]
          have e1 : fI σ1 0 1 + nI 1 = nI (wTn Z + (k + 1)) := by rw [f1, nI_add, Nat.add_assoc]
          rw [e1]
          refine ih (k + 1) _ (by omega) (by omega) (hF.trans ((Fm.sA σ1 _ _ (by decide)).trans (Fm.sI _ _ (by decide)))) (by rw [fI_sI]; simp) (fun i hi => ?_)
          rw [fA_sI, fA_sA]
          by_cases w : i = wTn Z + k
          · subst w
            rw [if_pos ⟨rfl, rfl⟩, if_pos (by omega)]
            congr 2; omega
          · rw [if_neg (by omega), hb i hi]
            by_cases w2 : wTn Z ≤ i ∧ i < wTn Z + k
            · rw [if_pos w2, if_pos (by omega)]
            · rw [if_neg w2, if_neg (by omega)]
        refine hX _ _ _ _ _ _ _ ?_
        simp (disch := omega) only [i_0, i_1, i_2, i_3, i_4, i_5, i_6, i_7, i_8, i_9, i_10, i_11, i_12, i_13, i_16, i_19, i_20, i_21, i_22, i_23, i_24, i_25, i_30, i_31, i_32, i_39, i_40, i_41, i_42, i_43, i_44, i_45, i_47, i_48, i_49, i_50, i_51, i_52, i_57, i_59, i_60, i_61, i_62, i_63, i_64, i_71, i_72, i_80, i_91, i_93, i_97, i_99, i_100, i_122, i_227, i_228, i_232, i_251, i_255, i_256, i_463, i_999, i_1000, i_1519, i_1600, i_9999, i_100000000, i_2147483639, i_2147483647, neg_nI1, nI_add, pk_mul, nI_remL, pk_sub, pk_div, nI_clamp, nI_leI, nI_ltI, nI_eq, vpT, nI_m1, m1_nI, nI_lem1, m1_le, m1_lt, nI_ltm1, nI_bit, nI_shl, nI_xor, nI_or, n_rem, forall_eq, true_and, and_true, implies_true, true_implies, false_implies, not_true_eq_false, not_false_eq_true, Nat.zero_add, Nat.add_zero, ite_true, ite_false, if_true, if_false, true_or, or_true, false_or, or_false, and_self, and_false, false_and, Nat.reduceEqDiff, reduceIte]
        refine ⟨fun z => by omega, fun _ => ⟨fun z1 => ⟨fun z2 => ⟨fun z3 => ⟨fun z4 => put e ?_, fun z4 => put d ?_⟩, fun z3 => put c ?_⟩, fun z2 => put b ?_⟩, fun z1 => put a ?_⟩⟩
        · unfold byS; rw [if_neg (by omega), if_neg (by omega), if_neg (by omega), if_neg (by omega)]
        · unfold byS; rw [if_neg (by omega), if_neg (by omega), if_neg (by omega), if_pos (by omega)]
        · unfold byS; rw [if_neg (by omega), if_neg (by omega), if_pos (by omega)]
        · unfold byS; rw [if_neg (by omega), if_pos (by omega)]
        · unfold byS; rw [if_pos (by omega)]
    exact key _ 0 σ rfl (by omega) (Fm.refl _ _ _ _) (by rw [Nat.add_zero]; exact h1) (fun i hi => by rw [if_neg (by omega)]; exact h.2.1.2 i hi)
  · rw [if_pos (by omega)] at hQ
    exact hQ _ (h.rf (k := 0) (by decide) rfl)
/-! images -/
def perB (s : St) (p : Nat) : List Nat := [zA s p % 8, zA s p / 8, zT s p, zK s p]
def imgB (P : Pl) (s : St) : List Nat := [zD s / 256, zD s % 256] ++ (cls P).map (zH s) ++ (List.range (nP P)).flatMap (perB s)
def chk (l : List Nat) : Nat := l.foldl (fun c b => (3 * c + b) % 251) 227
def opImage (Z : Wd) : Int32 × Wd := (nI ((imgB (wP Z) (wS Z)).length + 1), putO Z (imgB (wP Z) (wS Z) ++ [chk (imgB (wP Z) (wS Z))]))
def outL (σ : FS) (l : List Nat) : Prop := fI σ 0 113 = nI l.length ∧ l.length ≤ 80 ∧ (∀ b ∈ l, b < 256) ∧ ∀ (i : Nat) b, l[i]? = some b → fA σ 112 i = nI b
theorem ml_writes {σ : FS} {l : List Nat} {b : Nat} {Q : FS → Prop} (h : outL σ l) (hl : l.length < 80) (hb : b < 256) (hQ : ∀ σ', Fm [113] [112] [] σ σ' → outL σ' (l ++ [b]) → Q σ') : mw_writes (nI b) σ Q := by
  unfold mw_writes
  rw [h.1]
  simp (disch := omega) only [i_0, i_1, i_2, i_3, i_4, i_5, i_6, i_7, i_8, i_9, i_10, i_11, i_12, i_13, i_16, i_19, i_20, i_21, i_22, i_23, i_24, i_25, i_30, i_31, i_32, i_39, i_40, i_41, i_42, i_43, i_44, i_45, i_47, i_48, i_49, i_50, i_51, i_52, i_57, i_59, i_60, i_61, i_62, i_63, i_64, i_71, i_72, i_80, i_91, i_93, i_97, i_99, i_100, i_122, i_227, i_228, i_232, i_251, i_255, i_256, i_463, i_999, i_1000, i_1519, i_1600, i_9999, i_100000000, i_2147483639, i_2147483647, neg_nI1, nI_add, pk_mul, nI_remL, pk_sub, pk_div, nI_clamp, nI_leI, nI_ltI, nI_eq, vpT, nI_m1, m1_nI, nI_lem1, m1_le, m1_lt, nI_ltm1, nI_bit, nI_shl, nI_xor, nI_or, n_rem, forall_eq, true_and, and_true, implies_true, true_implies, false_implies, not_true_eq_false, not_false_eq_true, Nat.zero_add, Nat.add_zero, ite_true, ite_false, if_true, if_false, true_or, or_true, false_or, or_false, and_self, and_false, false_and, Nat.reduceEqDiff, reduceIte, fI_sI, fI_sL, fI_sA, fI_sB, fL_sI, fL_sL, fL_sA, fL_sB, fA_sI, fA_sL, fA_sA, fA_sB, fB_sI, fB_sL, fB_sA, fB_sB]
  have e1 : fI σ 0 113 + nI 1 = nI (l ++ [b]).length := by rw [h.1, nI_add]; simp
  rw [e1]
  refine hQ _ ((Fm.sA σ _ _ (by decide)).trans (Fm.sI _ _ (by decide))) ⟨by rw [fI_sI]; simp, by simp; omega, fun c hc => ?_, fun i c hc => ?_⟩
  · rcases List.mem_append.mp hc with hc | hc
    · exact h.2.2.1 c hc
    · simp at hc; omega
  · rw [fA_sI, fA_sA]
    rcases Nat.lt_or_ge i l.length with w | w
    · rw [List.getElem?_append_left w] at hc
      rw [if_neg (by omega)]; exact h.2.2.2 i c hc
    · rw [List.getElem?_append_right w] at hc
      have hz : i = l.length := by
        have := (List.getElem?_eq_some_iff.mp hc).1
        simp at this; omega
      subst hz
      simp at hc
      subst hc
      rw [if_pos ⟨rfl, rfl⟩]
theorem chk_lt (l : List Nat) : chk l < 251 := by
  unfold chk
  have : ∀ (l : List Nat) c, c < 251 → l.foldl (fun c b => (3 * c + b) % 251) c < 251 := by
    intro l
    induction l with
    | nil => intro c hc; exact hc
    | cons b l ih => intro c hc; rw [List.foldl_cons]; exact ih _ (Nat.mod_lt _ (by decide))
  exact this l 227 (by decide)
theorem ml_checked {σ : FS} {l : List Nat} {ar n : Nat} {Q : Int32 → FS → Prop} (hok : mok 1 ar) (hlen : n ≤ mlen ar) (hm : mlen ar ≤ 2000) (hn : n = l.length) (hb : ∀ b ∈ l, b < 256) (hl : ∀ (i : Nat) b, l[i]? = some b → fA σ ar i = nI b) (hQ : Q (nI (chk l)) σ) : mw_checked ar (nI n) σ Q := by
  subst hn
  unfold mw_checked mw_checked_6
  intro X hX
  have key : ∀ (r : List Nat) (k c : Nat), l.drop k = r → k ≤ l.length → c < 251 → r.foldl (fun c b => (3 * c + b) % 251) c = chk l → X ar (nI l.length) (nI c) (nI k) σ := by
    intro r
    induction r with
    | nil =>
      intro k c hd hk hc he
      have hk2 : k = l.length := by have := List.drop_eq_nil_iff.mp hd; omega
      refine hX _ _ _ _ _ ⟨fun _ => ?_, fun z => absurd ((nI_leI (by omega) (by omega)).mpr (by omega)) z⟩
      rw [List.foldl_nil] at he
      rw [← he] at hQ
      exact hQ
    | cons b r ih =>
      intro k c hd hk hc he
      obtain ⟨g1, g2, g3⟩ := drop_cons hd
      have hb2 := hb b (List.mem_of_getElem? g1)
      rw [List.foldl_cons] at he
      refine hX _ _ _ _ _ ⟨fun z => absurd ((nI_leI (by omega) (by omega)).mp z) (by omega), fun _ => ⟨hok, vp_in_nI (by omega) (by omega), ?_⟩⟩
      simp (disch := omega) only [i_0, i_1, i_2, i_3, i_4, i_5, i_6, i_7, i_8, i_9, i_10, i_11, i_12, i_13, i_16, i_19, i_20, i_21, i_22, i_23, i_24, i_25, i_30, i_31, i_32, i_39, i_40, i_41, i_42, i_43, i_44, i_45, i_47, i_48, i_49, i_50, i_51, i_52, i_57, i_59, i_60, i_61, i_62, i_63, i_64, i_71, i_72, i_80, i_91, i_93, i_97, i_99, i_100, i_122, i_227, i_228, i_232, i_251, i_255, i_256, i_463, i_999, i_1000, i_1519, i_1600, i_9999, i_100000000, i_2147483639, i_2147483647, neg_nI1, nI_add, pk_mul, nI_remL, pk_sub, pk_div, nI_clamp, nI_leI, nI_ltI, nI_eq, vpT, nI_m1, m1_nI, nI_lem1, m1_le, m1_lt, nI_ltm1, nI_bit, nI_shl, nI_xor, nI_or, n_rem, forall_eq, true_and, and_true, implies_true, true_implies, false_implies, not_true_eq_false, not_false_eq_true, Nat.zero_add, Nat.add_zero, ite_true, ite_false, if_true, if_false, true_or, or_true, false_or, or_false, and_self, and_false, false_and, Nat.reduceEqDiff, reduceIte]
      rw [hl k b g1]
      simp (disch := omega) only [i_0, i_1, i_2, i_3, i_4, i_5, i_6, i_7, i_8, i_9, i_10, i_11, i_12, i_13, i_16, i_19, i_20, i_21, i_22, i_23, i_24, i_25, i_30, i_31, i_32, i_39, i_40, i_41, i_42, i_43, i_44, i_45, i_47, i_48, i_49, i_50, i_51, i_52, i_57, i_59, i_60, i_61, i_62, i_63, i_64, i_71, i_72, i_80, i_91, i_93, i_97, i_99, i_100, i_122, i_227, i_228, i_232, i_251, i_255, i_256, i_463, i_999, i_1000, i_1519, i_1600, i_9999, i_100000000, i_2147483639, i_2147483647, neg_nI1, nI_add, pk_mul, nI_remL, pk_sub, pk_div, nI_clamp, nI_leI, nI_ltI, nI_eq, vpT, nI_m1, m1_nI, nI_lem1, m1_le, m1_lt, nI_ltm1, nI_bit, nI_shl, nI_xor, nI_or, n_rem, forall_eq, true_and, and_true, implies_true, true_implies, false_implies, not_true_eq_false, not_false_eq_true, Nat.zero_add, Nat.add_zero, ite_true, ite_false, if_true, if_false, true_or, or_true, false_or, or_false, and_self, and_false, false_and, Nat.reduceEqDiff, reduceIte]
      exact ih (k + 1) _ g2 (by omega) (Nat.mod_lt _ (by decide)) he
  exact key l 0 227 rfl (by omega) (by decide) rfl
theorem ml_cellMany0 {σ : FS} {P : Pl} {Q : Int32 → FS → Prop} (hP : mPc σ P) (hQ : Q (nI (plC P * plR P)) σ) : mw_cellMany σ Q := by
  unfold mw_cellMany
  simp (disch := omega) only [i_0, i_1, i_2, i_3, i_4, i_5, i_6, i_7, i_8, i_9, i_10, i_11, i_12, i_13, i_16, i_19, i_20, i_21, i_22, i_23, i_24, i_25, i_30, i_31, i_32, i_39, i_40, i_41, i_42, i_43, i_44, i_45, i_47, i_48, i_49, i_50, i_51, i_52, i_57, i_59, i_60, i_61, i_62, i_63, i_64, i_71, i_72, i_80, i_91, i_93, i_97, i_99, i_100, i_122, i_227, i_228, i_232, i_251, i_255, i_256, i_463, i_999, i_1000, i_1519, i_1600, i_9999, i_100000000, i_2147483639, i_2147483647, neg_nI1, nI_add, pk_mul, nI_remL, pk_sub, pk_div, nI_clamp, nI_leI, nI_ltI, nI_eq, vpT, nI_m1, m1_nI, nI_lem1, m1_le, m1_lt, nI_ltm1, nI_bit, nI_shl, nI_xor, nI_or, n_rem, forall_eq, true_and, and_true, implies_true, true_implies, false_implies, not_true_eq_false, not_false_eq_true, Nat.zero_add, Nat.add_zero, ite_true, ite_false, if_true, if_false, true_or, or_true, false_or, or_false, and_self, and_false, false_and, Nat.reduceEqDiff, reduceIte]
  rw [hP.1.1, hP.1.2.1, pk_mul]; exact hQ
theorem imgB_len {P : Pl} (hP : plOK P ∨ P = P0) (s : St) : (imgB P s).length = 2 + plC P * plR P + 4 * nP P := by
  have h1 : (cls P).length = plC P * plR P := by
    rcases hP with hP | rfl
    · rw [cls_map hP]; simp
    · decide
  have h2 : ∀ n, ((List.range n).flatMap (perB s)).length = 4 * n := by
    intro n
    induction n with
    | zero => rfl
    | succ n ih => rw [List.range_succ, List.flatMap_append, List.length_append, ih]; simp [perB]; omega
  unfold imgB
  rw [List.length_append, List.length_append, List.length_map, h1, h2]
  simp
theorem ma_image {σ : FS} {Z : Wd} {Q : Int32 → FS → Prop} (h : mAll σ Z) (hQ : ∀ σ', mAll σ' (opImage Z).2 → Q (opImage Z).1 σ') : mw_image σ Q := by
  have hA := h
  obtain ⟨h1, h2, h3, h4, h5, h6, h7, h8, h9, h10, h11, h12, h13, h14⟩ := h
  have hnp := h1.np
  have hz := h1.2.2.1
  have hcr : plC (wP Z) * plR (wP Z) ≤ 49 := Nat.mul_le_mul hnp.2.2.1 hnp.2.2.2.1
  have hil := imgB_len h1.1 (wS Z)
  have hk32 : ∀ p, p < nP (wP Z) → zK (wS Z) p < 32 := fun p hp => Nat.lt_of_lt_of_le (h6.1.2.2.1 p hp).2.2 (Nat.le_trans (Nat.pow_le_pow_right (by decide) hnp.2.1) (by decide))
  unfold mw_image
  intro σ1 e1
  have e1 : σ1 = sI σ 0 113 (nI 0) := e1
  have hF1 : Fm [113] [112] [] σ σ1 := by rw [e1]; exact Fm.sI σ _ (by decide)
  have o1 : outL σ1 [] := ⟨by rw [e1, fI_sI]; simp, by simp, fun b hb => (by cases hb), fun i b hb => (by simp at hb)⟩
  simp (disch := omega) only [i_0, i_1, i_2, i_3, i_4, i_5, i_6, i_7, i_8, i_9, i_10, i_11, i_12, i_13, i_16, i_19, i_20, i_21, i_22, i_23, i_24, i_25, i_30, i_31, i_32, i_39, i_40, i_41, i_42, i_43, i_44, i_45, i_47, i_48, i_49, i_50, i_51, i_52, i_57, i_59, i_60, i_61, i_62, i_63, i_64, i_71, i_72, i_80, i_91, i_93, i_97, i_99, i_100, i_122, i_227, i_228, i_232, i_251, i_255, i_256, i_463, i_999, i_1000, i_1519, i_1600, i_9999, i_100000000, i_2147483639, i_2147483647, neg_nI1, nI_add, pk_mul, nI_remL, pk_sub, pk_div, nI_clamp, nI_leI, nI_ltI, nI_eq, vpT, nI_m1, m1_nI, nI_lem1, m1_le, m1_lt, nI_ltm1, nI_bit, nI_shl, nI_xor, nI_or, n_rem, forall_eq, true_and, and_true, implies_true, true_implies, false_implies, not_true_eq_false, not_false_eq_true, Nat.zero_add, Nat.add_zero, ite_true, ite_false, if_true, if_false, true_or, or_true, false_or, or_false, and_self, and_false, false_and, Nat.reduceEqDiff, reduceIte]
  have nowf : ∀ σ', Fm [113] [112] [] σ σ' → mN σ' (wP Z) (wS Z) := fun σ' hF => h6.eqv (hF.2.1 52 (by decide))
  have pf : ∀ σ', Fm [113] [112] [] σ σ' → mPo σ' (wP Z) := fun σ' hF => h5.fm hF (by decide) (by decide) (by decide)
  rw [(nowf σ1 hF1).2.1, pk_div (by omega) (by decide) (by decide)]
  refine ml_writes o1 (by simp) (by omega) (fun σ2 hF2 o2 => ?_)
  have hF2' := hF1.trans hF2
  rw [(nowf σ2 hF2').2.1]
  simp (disch := omega) only [i_0, i_1, i_2, i_3, i_4, i_5, i_6, i_7, i_8, i_9, i_10, i_11, i_12, i_13, i_16, i_19, i_20, i_21, i_22, i_23, i_24, i_25, i_30, i_31, i_32, i_39, i_40, i_41, i_42, i_43, i_44, i_45, i_47, i_48, i_49, i_50, i_51, i_52, i_57, i_59, i_60, i_61, i_62, i_63, i_64, i_71, i_72, i_80, i_91, i_93, i_97, i_99, i_100, i_122, i_227, i_228, i_232, i_251, i_255, i_256, i_463, i_999, i_1000, i_1519, i_1600, i_9999, i_100000000, i_2147483639, i_2147483647, neg_nI1, nI_add, pk_mul, nI_remL, pk_sub, pk_div, nI_clamp, nI_leI, nI_ltI, nI_eq, vpT, nI_m1, m1_nI, nI_lem1, m1_le, m1_lt, nI_ltm1, nI_bit, nI_shl, nI_xor, nI_or, n_rem, forall_eq, true_and, and_true, implies_true, true_implies, false_implies, not_true_eq_false, not_false_eq_true, Nat.zero_add, Nat.add_zero, ite_true, ite_false, if_true, if_false, true_or, or_true, false_or, or_false, and_self, and_false, false_and, Nat.reduceEqDiff, reduceIte]
  refine ml_writes o2 (by simp) (Nat.mod_lt _ (by decide)) (fun σ3 hF3 o3 => ?_)
  have hF3' := hF2'.trans hF3
  -- the end: the check
  have fin : ∀ σ', Fm [113] [112] [] σ σ' → outL σ' (imgB (wP Z) (wS Z)) → mw_checked 112 (fI σ' 0 113) σ' (fun r14 σ13 => mw_writes r14 σ13 (fun σ15 => Q (fI σ15 0 113) σ15)) := by
    intro σ' hF' o'
    rw [o'.1]
    refine ml_checked (l := imgB (wP Z) (wS Z)) (by unfold mok; decide) (by show _ ≤ 80; omega) (by decide) rfl o'.2.2.1 o'.2.2.2 ?_
    have hc := chk_lt (imgB (wP Z) (wS Z))
    refine ml_writes o' (by omega) (by omega) (fun σ2 hF2 o2 => ?_)
    have hF := hF'.trans hF2
    rw [o2.1, List.length_append]
    refine hQ σ2 ⟨?_, ⟨by rw [hF.1 1 (by decide)]; exact h2.1, by rw [hF.2.1 0 (by decide)]; exact h2.2⟩, by rw [hF.1 7 (by decide), hF.1 8 (by decide)]; exact h3, by rw [hF.2.1 9 (by decide)]; exact h4, pf σ2 hF, nowf σ2 hF, by unfold mKe; rw [hF.2.1 52 (by decide)]; exact h7, ⟨by rw [hF.1 71 (by decide)]; exact h8.1, by rw [hF.2.1 72 (by decide)]; exact h8.2⟩, by unfold mUn; rw [hF.1 76 (by decide), hF.1 77 (by decide), hF.2.1 75 (by decide)]; exact h9, by rw [hF.2.2.2]; exact h10, ⟨o2.1, o2.2.2.2⟩, h12.eqv (hF.1 56 (by decide)), by rw [hF.1 57 (by decide), hF.1 60 (by decide)]; exact h13, h14.fm (fun a z => hF.2.1 a (by simp; omega))⟩
    obtain ⟨w1, w2, w3, w4, w5, w6, w7, w8, w9, w10, w11, w12⟩ := h1
    exact ⟨w1, w2, w3, w4, w5, w6, w7, w8, w9, o2.2.1, o2.2.2.1, w12⟩
  -- people
  have people : ∀ σ', Fm [113] [112] [] σ σ' → outL σ' ([zD (wS Z) / 256, zD (wS Z) % 256] ++ (cls (wP Z)).map (zH (wS Z))) → mw_image_64 (nI 0) σ' Q := by
    intro σ' hF' o'
    unfold mw_image_64
    intro X hX
    have key : ∀ j p (σ2 : FS), nP (wP Z) - p = j → p ≤ nP (wP Z) → Fm [113] [112] [] σ σ2 → outL σ2 ([zD (wS Z) / 256, zD (wS Z) % 256] ++ (cls (wP Z)).map (zH (wS Z)) ++ (List.range p).flatMap (perB (wS Z))) → X (nI p) σ2 := by
      intro j
      induction j with
      | zero =>
        intro p σ2 hj hp hF2 o2
        have hpp : p = nP (wP Z) := by omega
        subst hpp
        refine hX _ _ ?_
        unfold mw_personMany
        simp (disch := omega) only [i_0, i_1, i_2, i_3, i_4, i_5, i_6, i_7, i_8, i_9, i_10, i_11, i_12, i_13, i_16, i_19, i_20, i_21, i_22, i_23, i_24, i_25, i_30, i_31, i_32, i_39, i_40, i_41, i_42, i_43, i_44, i_45, i_47, i_48, i_49, i_50, i_51, i_52, i_57, i_59, i_60, i_61, i_62, i_63, i_64, i_71, i_72, i_80, i_91, i_93, i_97, i_99, i_100, i_122, i_227, i_228, i_232, i_251, i_255, i_256, i_463, i_999, i_1000, i_1519, i_1600, i_9999, i_100000000, i_2147483639, i_2147483647, neg_nI1, nI_add, pk_mul, nI_remL, pk_sub, pk_div, nI_clamp, nI_leI, nI_ltI, nI_eq, vpT, nI_m1, m1_nI, nI_lem1, m1_le, m1_lt, nI_ltm1, nI_bit, nI_shl, nI_xor, nI_or, n_rem, forall_eq, true_and, and_true, implies_true, true_implies, false_implies, not_true_eq_false, not_false_eq_true, Nat.zero_add, Nat.add_zero, ite_true, ite_false, if_true, if_false, true_or, or_true, false_or, or_false, and_self, and_false, false_and, Nat.reduceEqDiff, reduceIte]
        rw [(pf σ2 hF2).pc.2.2.1]
        refine ⟨fun _ => fin σ2 hF2 o2, fun z => absurd ((nI_leI (by omega) (by omega)).mpr (by omega)) z⟩
      | succ j ih =>
        intro p σ2 hj hp hF2 o2
        have hpp : p < nP (wP Z) := by omega
        have hP2 := (pf σ2 hF2).p (Or.inr (Or.inl (by omega)))
        obtain ⟨hcell, hti, hkn⟩ := h6.1.2.2.1 p hpp
        have hlt := isC_lt hP2.1 hcell
        have h49 := c7_lt hP2.1 hcell
        have hk := hk32 p hpp
        have hlen : ([zD (wS Z) / 256, zD (wS Z) % 256] ++ (cls (wP Z)).map (zH (wS Z)) ++ (List.range p).flatMap (perB (wS Z))).length = 2 + plC (wP Z) * plR (wP Z) + 4 * p := by
          have hx := imgB_len h1.1 (wS Z)
          have hy : ∀ n, ((List.range n).flatMap (perB (wS Z))).length = 4 * n := by
            intro n
            induction n with
            | zero => rfl
            | succ n ih => rw [List.range_succ, List.flatMap_append, List.length_append, ih]; simp [perB]; omega
          unfold imgB at hx
          rw [List.length_append, hy] at hx ⊢
          omega
        refine hX _ _ (ml_personMany hP2 ⟨fun z => absurd ((nI_leI (by omega) (by omega)).mp z) (by omega), fun _ => ?_⟩)
        refine ml_cellOf hP2 (nowf σ2 hF2) hpp ?_
        simp (disch := omega) only [i_0, i_1, i_2, i_3, i_4, i_5, i_6, i_7, i_8, i_9, i_10, i_11, i_12, i_13, i_16, i_19, i_20, i_21, i_22, i_23, i_24, i_25, i_30, i_31, i_32, i_39, i_40, i_41, i_42, i_43, i_44, i_45, i_47, i_48, i_49, i_50, i_51, i_52, i_57, i_59, i_60, i_61, i_62, i_63, i_64, i_71, i_72, i_80, i_91, i_93, i_97, i_99, i_100, i_122, i_227, i_228, i_232, i_251, i_255, i_256, i_463, i_999, i_1000, i_1519, i_1600, i_9999, i_100000000, i_2147483639, i_2147483647, neg_nI1, nI_add, pk_mul, nI_remL, pk_sub, pk_div, nI_clamp, nI_leI, nI_ltI, nI_eq, vpT, nI_m1, m1_nI, nI_lem1, m1_le, m1_lt, nI_ltm1, nI_bit, nI_shl, nI_xor, nI_or, n_rem, forall_eq, true_and, and_true, implies_true, true_implies, false_implies, not_true_eq_false, not_false_eq_true, Nat.zero_add, Nat.add_zero, ite_true, ite_false, if_true, if_false, true_or, or_true, false_or, or_false, and_self, and_false, false_and, Nat.reduceEqDiff, reduceIte]
        rw [c7_mod hlt.1]
        refine ml_writes o2 (by omega) (by omega) (fun σ3 hF3 o3 => ?_)
        have hF3' := hF2.trans hF3
        have hP3 := (pf σ3 hF3').p (Or.inr (Or.inl (by omega)))
        refine ml_cellOf hP3 (nowf σ3 hF3') hpp ?_
        rw [pk_div (by omega) (by decide) (by decide), c7_div hlt.1]
        refine ml_writes o3 (by rw [List.length_append, hlen]; simp; omega) (by omega) (fun σ4 hF4 o4 => ?_)
        have hF4' := hF3'.trans hF4
        have hP4 := (pf σ4 hF4').p (Or.inr (Or.inl (by omega)))
        refine ml_tiredOf hP4 (nowf σ4 hF4') hpp ?_
        refine ml_writes o4 (by rw [List.length_append, List.length_append, hlen]; simp; omega) (by omega) (fun σ5 hF5 o5 => ?_)
        have hF5' := hF4'.trans hF5
        have hP5 := (pf σ5 hF5').p (Or.inr (Or.inl (by omega)))
        refine ml_knowsOf hP5 (nowf σ5 hF5') hpp ?_
        refine ml_writes o5 (by rw [List.length_append, List.length_append, List.length_append, hlen]; simp; omega) (by omega) (fun σ6 hF6 o6 => ?_)
        refine ih (p + 1) σ6 (by omega) (by omega) (hF5'.trans hF6) ?_
        rw [List.range_succ, List.flatMap_append, ← List.append_assoc]
        simpa [perB, List.append_assoc] using o6
    exact key _ 0 σ' rfl (by omega) hF' (by simpa using o')
  -- cells
  unfold mw_image_35
  intro X hX
  have cells : ∀ j k (σ2 : FS), plC (wP Z) * plR (wP Z) - k = j → k ≤ plC (wP Z) * plR (wP Z) → Fm [113] [112] [] σ σ2 → outL σ2 ([zD (wS Z) / 256, zD (wS Z) % 256] ++ ((cls (wP Z)).take k).map (zH (wS Z))) → X (nI k) σ2 := by
    intro j
    induction j with
    | zero =>
      intro k σ2 hj hk hF2 o2
      refine hX _ _ (ml_cellMany0 (pf σ2 hF2).pc ⟨fun _ => people σ2 hF2 ?_, fun z => absurd ((nI_leI (by omega) (by omega)).mpr (by omega)) z⟩)
      have hcl : (cls (wP Z)).length = plC (wP Z) * plR (wP Z) := by
        rcases h1.1 with hP | hP
        · rw [cls_map hP]; simp
        · rw [hP]; decide
      rw [List.take_of_length_le (by omega)] at o2
      exact o2
    | succ j ih =>
      intro k σ2 hj hk hF2 o2
      have hkk : k < plC (wP Z) * plR (wP Z) := by omega
      have hP2 : mP σ2 (wP Z) := (pf σ2 hF2).p (Or.inl (by
        rcases Nat.eq_zero_or_pos (plC (wP Z)) with q | q
        · rw [q] at hkk; omega
        · exact q))
      obtain ⟨hc, h7⟩ := ordC_ok hP2.1 hkk
      have hh := h6.1.2.1 _ hc
      refine hX _ _ (ml_cellMany0 (pf σ2 hF2).pc ⟨fun z => absurd ((nI_leI (by omega) (by omega)).mp z) (by omega), fun _ => ml_cellOrder hP2 hkk (ml_heightOf hP2 (nowf σ2 hF2) hc ?_)⟩)
      have hl : ([zD (wS Z) / 256, zD (wS Z) % 256] ++ ((cls (wP Z)).take k).map (zH (wS Z))).length < 80 := by
        rw [List.length_append, List.length_map, List.length_take]; simp; omega
      refine ml_writes o2 hl (by omega) (fun σ3 hF3 o3 => ?_)
      rw [nI_1]
      refine ih (k + 1) σ3 (by omega) (by omega) (hF2.trans hF3) ?_
      have e : (cls (wP Z)).take (k + 1) = (cls (wP Z)).take k ++ [ordC (wP Z) k] := by
        have hd := cls_at hP2.1 hkk
        obtain ⟨g1, -, -⟩ := drop_cons hd
        rw [List.take_add_one, g1]; rfl
      rw [e, List.map_append, ← List.append_assoc]
      exact o3
  exact cells _ 0 σ3 rfl (by omega) hF3' (by simpa using o3)
