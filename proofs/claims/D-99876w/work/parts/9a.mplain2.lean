/-! THE REFERENCE: plain -/
abbrev kG : List Nat := [1, 2, 3, 4, 5, 6, 7, 8, 10, 38, 48, 49, 51, 103, 105, 106, 107]
abbrev aG : List Nat := [9, 39, 40, 42, 43, 44, 45, 46, 47, 102, 104]
def Px (σ σ' : FS) : Prop := (∀ i, 3 ≤ i → fA σ' 39 i = fA σ 39 i ∧ fA σ' 40 i = fA σ 40 i ∧ fA σ' 45 i = fA σ 45 i ∧ fA σ' 46 i = fA σ 46 i) ∧ (∀ i, 24 ≤ i → fA σ' 44 i = fA σ 44 i) ∧ (∀ i, 1600 ≤ i → fA σ' 47 i = fA σ 47 i) ∧ ∀ i, 16 ≤ i → fB σ' 41 i = fB σ 41 i
theorem Px.trans {σ σ' σ'' : FS} (h : Px σ σ') (g : Px σ' σ'') : Px σ σ'' :=
  ⟨fun i hi => ⟨(g.1 i hi).1.trans (h.1 i hi).1, (g.1 i hi).2.1.trans (h.1 i hi).2.1, (g.1 i hi).2.2.1.trans (h.1 i hi).2.2.1, (g.1 i hi).2.2.2.trans (h.1 i hi).2.2.2⟩, fun i hi => (g.2.1 i hi).trans (h.2.1 i hi), fun i hi => (g.2.2.1 i hi).trans (h.2.2.1 i hi), fun i hi => (g.2.2.2 i hi).trans (h.2.2.2 i hi)⟩
theorem mCd.px {σ σ' : FS} {w : Nat} {o : Option (List Nat)} (h : mCd σ w o) (f : Px σ σ') : mCd σ' w o := by
  cases o with
  | none => unfold mCd at h ⊢; rw [(f.1 _ (by omega)).2.2.1]; exact h
  | some cs =>
    obtain ⟨g, q1, q2, q3, q4⟩ := h
    exact ⟨g, by rw [(f.1 _ (by omega)).2.2.1]; exact q1, by rw [(f.1 _ (by omega)).2.2.2]; exact q2, q3, fun i c hi => by rw [f.2.2.1 _ (by omega)]; exact q4 i c hi⟩
theorem mPc.px {σ σ' : FS} {P : Pl} (h : mPc σ P) (f : Px σ σ') : mPc σ' P :=
  ⟨⟨by rw [(f.1 3 (by decide)).1]; exact h.1.1, by rw [(f.1 4 (by decide)).1]; exact h.1.2.1, by rw [(f.1 5 (by decide)).1]; exact h.1.2.2⟩, ⟨by rw [(f.1 3 (by decide)).2.1]; exact h.2.1, by rw [(f.1 4 (by decide)).2.1]; exact h.2.2.1, by rw [(f.1 5 (by decide)).2.1]; exact h.2.2.2⟩⟩
theorem mPo.px {σ σ' : FS} {P : Pl} (h : mPo σ P) (f : Px σ σ') (h50 : fI σ' 0 50 = fI σ 0 50) : mPo σ' P := by
  rcases h with h | ⟨h1, h2, h3⟩
  · obtain ⟨g1, g2, g3, g4, g5, g6, g7, g8⟩ := h
    have hc : mPc σ' P := (show mPc σ P from ⟨g3, g4⟩).px f
    refine Or.inl ⟨g1, by rw [h50]; exact g2, hc.1, hc.2, fun k q hk => ?_, ⟨g6.1.px f, g6.2.1.px f, g6.2.2.px f⟩, fun k w hk => ?_, fun k w hk => ?_⟩
    · rw [f.2.1 _ (by omega), f.2.1 _ (by omega)]; exact g5 k q hk
    · rw [f.2.2.2 _ (by omega)]; exact g7 k w hk
    · rw [f.2.2.2 _ (by omega)]; exact g8 k w hk
  · exact Or.inr ⟨h1, by rw [h50]; exact h2, h3.px f⟩
/-- a fault: only that is told, and what was fed is gone -/
theorem mAll.px {σ σ' : FS} {Z : Wd} {q : Nat × Nat} (h : mAll σ Z) (f : Fm kG aG [41] σ σ') (g : Px σ σ') (h1 : fI σ' 0 1 = nI 0) (h7 : fI σ' 0 7 = nI q.1) (h8 : fI σ' 0 8 = nI q.2) (h9 : ∀ i, i < 6 → fA σ' 9 i = if i = 1 then wRf Z i + 1 else wRf Z i) : mAll σ' (putRf ((wTp Z, 0), (nI q.1, nI q.2), Z.2.2) 1) := by
  obtain ⟨g1, g2, g3, g4, g5, g6, g7, g8, g9, g10, g11, g12, g13, g14⟩ := h
  obtain ⟨w1, w2, w3, w4, w5⟩ := g1
  refine ⟨⟨w1, w2, w3, Nat.zero_le _, w5⟩, ⟨h1, ?_⟩, ⟨h7, h8⟩, h9, mPo.px g5 g (f.1 50 (by decide)), g6.eqv (f.2.1 52 (by decide)), ?_, ?_, ?_, ?_, ?_, ?_, ?_, ?_⟩
  · rw [f.2.1 0 (by decide)]; exact g2.2
  · show mKe σ' (zE (wS Z))
    unfold mKe; rw [f.2.1 52 (by decide)]; exact g7
  · show fI σ' 0 71 = _ ∧ _
    rw [f.1 71 (by decide), f.2.1 72 (by decide)]; exact g8
  · show fI σ' 0 76 = _ ∧ _
    rw [f.1 76 (by decide), f.1 77 (by decide), f.2.1 75 (by decide)]; exact g9
  · rw [f.2.2.2]; exact g10
  · show fI σ' 0 113 = _ ∧ _
    rw [f.1 113 (by decide), f.2.1 112 (by decide)]; exact g11
  · obtain ⟨sd, s1, s2⟩ := g12
    exact ⟨sd, s1, by rw [f.1 56 (by decide)]; exact s2⟩
  · rw [f.1 57 (by decide), f.1 60 (by decide)]; exact g13
  · exact g14.fm (fun a z => f.2.1 a (fun q => by
      have : a = 9 ∨ (39 ≤ a ∧ a ≤ 47) ∨ a = 102 ∨ a = 104 := by
        simp only [List.mem_cons, List.not_mem_nil, or_false] at q; omega
      omega))
theorem mAll.ok {σ σ' : FS} {Z : Wd} {D : Dr} (h : mAll σ Z) (hd : drOK D) (f : Fm (kG ++ [50, 71, 76]) (aG ++ [52]) [41] σ σ') (h9 : fA σ' 9 = fA σ 9) (h1 : fI σ' 0 1 = nI 0) (h7 : fI σ' 0 7 = nI 0) (h8 : fI σ' 0 8 = M1) (hP : mP σ' D.1) (hN : mN σ' D.1 (stD D)) (hK : mKe σ' []) (h76 : fI σ' 0 76 = nI 0) (h71 : fI σ' 0 71 = nI 0) : mAll σ' ((wTp Z, 0), (nI 0, M1), wRf Z, D.1, (0, dH D, dA D, dT D, dK D, []), [], [], wD Z, wO Z) := by
  obtain ⟨g1, g2, g3, g4, g5, g6, g7, g8, g9, g10, g11, g12, g13, g14⟩ := h
  obtain ⟨w1, w2, w3, w4, w5, w6, w7, w8, w9, w10, w11, w12⟩ := g1
  refine ⟨⟨Or.inl hd.1, hd.2.1, Nat.zero_le _, Nat.zero_le _, w5, by simp [wR], by simp [wR], by simp [wU], by simp [wU], w10, w11, hd.2.2⟩, ⟨h1, ?_⟩, ⟨h7, h8⟩, ?_, Or.inl hP, hN, hK, ⟨h71, by simp [wR]⟩, ⟨h76, ?_⟩, ?_, ?_, ?_, ?_, ?_⟩
  · rw [f.2.1 0 (by decide)]; exact g2.2
  · rw [h9]; exact g4
  · obtain ⟨w, hw1, hw2, _⟩ := g9.2
    exact ⟨w, hw1, by rw [f.1 77 (by decide)]; exact hw2, by simp [wU]⟩
  · rw [f.2.2.2]; exact g10
  · show fI σ' 0 113 = _ ∧ _
    rw [f.1 113 (by decide), f.2.1 112 (by decide)]; exact g11
  · obtain ⟨sd, s1, s2⟩ := g12
    exact ⟨sd, s1, by rw [f.1 56 (by decide)]; exact s2⟩
  · rw [f.1 57 (by decide), f.1 60 (by decide)]; exact g13
  · exact g14.fm (fun a z => f.2.1 a (fun q => by
      have : a = 9 ∨ (39 ≤ a ∧ a ≤ 47) ∨ a = 102 ∨ a = 104 ∨ a = 52 := by
        simp only [List.mem_append, List.mem_cons, List.not_mem_nil, or_false] at q; omega
      omega))
theorem ml_p74 {σ : FS} {Q : Int32 → FS → Prop} (hQ : ∀ σ', Fm [] [42] [] σ σ' → (∀ i, i < 49 → fA σ' 42 i = nI 50) → mw_plainTold σ' (fun σ11 => (∀ σ12, σ12 = sI σ11 0 49 (1 : Int32) → mw_plain_103 σ12 Q))) : mw_plain_74 (nI 0) σ Q := by
  unfold mw_plain_74
  intro X hX
  have key : ∀ m j σ1, j + m = 49 → Fm [] [42] [] σ σ1 → (∀ i, i < j → fA σ1 42 i = nI 50) → X (nI j) σ1 := by
    intro m
    induction m with
    | zero =>
      intro j σ1 hj hF hc
      have hjN : j = 49 := by omega
      subst hjN
      exact hX _ _ ⟨fun _ => hQ σ1 hF hc, fun z => absurd (by decide) z⟩
    | succ m ih =>
      intro j σ1 hj hF hc
      refine hX _ _ ⟨fun z => ?_, fun _ => ?_⟩
      · have z2 : nI 49 ≤ nI j := z
        rw [nI_leI (by omega) (by omega)] at z2
        omega
      · simp (disch := omega) only [i_0, i_1, i_2, i_3, i_4, i_5, i_6, i_7, i_8, i_9, i_10, i_11, i_12, i_13, i_16, i_19, i_20, i_21, i_22, i_23, i_24, i_25, i_30, i_31, i_32, i_39, i_40, i_41, i_42, i_43, i_44, i_45, i_47, i_48, i_49, i_50, i_51, i_52, i_57, i_59, i_60, i_61, i_62, i_63, i_64, i_71, i_72, i_80, i_91, i_93, i_97, i_99, i_100, i_122, i_227, i_228, i_232, i_251, i_255, i_256, i_463, i_999, i_1000, i_1519, i_1600, i_9999, i_100000000, i_2147483639, i_2147483647, neg_nI1, nI_add, pk_mul, nI_remL, pk_sub, pk_div, nI_clamp, nI_leI, nI_ltI, nI_eq, vpT, nI_m1, m1_nI, nI_lem1, m1_le, m1_lt, nI_ltm1, nI_bit, nI_shl, nI_xor, nI_or, n_rem, forall_eq, true_and, and_true, implies_true, true_implies, false_implies, not_true_eq_false, not_false_eq_true, Nat.zero_add, Nat.add_zero, ite_true, ite_false, if_true, if_false, true_or, or_true, false_or, or_false, and_self, and_false, false_and, Nat.reduceEqDiff, reduceIte]
        refine ih (j + 1) _ (by omega) (hF.trans (Fm.sA _ _ _ (by decide))) (fun i hi => ?_)
        rw [fA_sA]
        by_cases z : i = j
        · rw [if_pos ⟨rfl, z⟩]
        · rw [if_neg (fun q => z q.2)]; exact hc i (by omega)
  exact key 49 0 σ (by omega) (Fm.refl _ _ _ _) (fun i hi => by omega)
theorem ml_p47 {σ : FS} {Q : Int32 → FS → Prop} (hQ : ∀ σ', Fm [] [40, 45] [] σ σ' → (∀ i, fA σ' 40 i = if i < 3 then nI 0 else fA σ 40 i) → (∀ i, fA σ' 45 i = if i < 3 then M1 else fA σ 45 i) → mw_plain_74 (nI 0) σ' Q) : mw_plain_47 (nI 0) σ Q := by
  unfold mw_plain_47
  intro X hX
  have key : ∀ m j σ1, j + m = 3 → Fm [] [40, 45] [] σ σ1 → (∀ i, fA σ1 40 i = if i < j then nI 0 else fA σ 40 i) → (∀ i, fA σ1 45 i = if i < j then M1 else fA σ 45 i) → X (nI j) σ1 := by
    intro m
    induction m with
    | zero =>
      intro j σ1 hj hF hc hc2
      have hjN : j = 3 := by omega
      subst hjN
      exact hX _ _ ⟨fun _ => hQ σ1 hF hc hc2, fun z => absurd (by decide) z⟩
    | succ m ih =>
      intro j σ1 hj hF hc hc2
      refine hX _ _ ⟨fun z => ?_, fun _ => ?_⟩
      · have z2 : nI 3 ≤ nI j := z
        rw [nI_leI (by omega) (by omega)] at z2
        omega
      · simp (disch := omega) only [i_0, i_1, i_2, i_3, i_4, i_5, i_6, i_7, i_8, i_9, i_10, i_11, i_12, i_13, i_16, i_19, i_20, i_21, i_22, i_23, i_24, i_25, i_30, i_31, i_32, i_39, i_40, i_41, i_42, i_43, i_44, i_45, i_47, i_48, i_49, i_50, i_51, i_52, i_57, i_59, i_60, i_61, i_62, i_63, i_64, i_71, i_72, i_80, i_91, i_93, i_97, i_99, i_100, i_122, i_227, i_228, i_232, i_251, i_255, i_256, i_463, i_999, i_1000, i_1519, i_1600, i_9999, i_100000000, i_2147483639, i_2147483647, neg_nI1, nI_add, pk_mul, nI_remL, pk_sub, pk_div, nI_clamp, nI_leI, nI_ltI, nI_eq, vpT, nI_m1, m1_nI, nI_lem1, m1_le, m1_lt, nI_ltm1, nI_bit, nI_shl, nI_xor, nI_or, n_rem, forall_eq, true_and, and_true, implies_true, true_implies, false_implies, not_true_eq_false, not_false_eq_true, Nat.zero_add, Nat.add_zero, ite_true, ite_false, if_true, if_false, true_or, or_true, false_or, or_false, and_self, and_false, false_and, Nat.reduceEqDiff, reduceIte]
        refine ih (j + 1) _ (by omega) ((hF.trans (Fm.sA _ _ _ (by decide))).trans (Fm.sA _ _ _ (by decide))) (fun i => ?_) (fun i => ?_)
        · rw [fA_sA, if_neg (by omega), fA_sA, hc i]
          by_cases z : i = j
          · rw [if_pos ⟨rfl, z⟩, if_pos (by omega)]
          · rw [if_neg (fun q => z q.2)]
            by_cases z2 : i < j
            · rw [if_pos z2, if_pos (by omega)]
            · rw [if_neg z2, if_neg (by omega)]
        · rw [fA_sA, fA_sA, hc2 i]
          by_cases z : i = j
          · rw [if_pos ⟨rfl, z⟩, if_pos (by omega)]
          · rw [if_neg (fun q => z q.2), if_neg (by omega)]
            by_cases z2 : i < j
            · rw [if_pos z2, if_pos (by omega)]
            · rw [if_neg z2, if_neg (by omega)]
  exact key 3 0 σ (by omega) (Fm.refl _ _ _ _) (fun i => by rw [if_neg (by omega)]) (fun i => by rw [if_neg (by omega)])
