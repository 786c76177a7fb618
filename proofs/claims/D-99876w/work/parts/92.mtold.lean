/-! THE REFERENCE: new names, cells, the end of a statement -/
theorem ml_nn15B {σ : FS} {q : Nat × Nat} {i : Nat} {l : List (List Nat)} {x : Int64} {X7 : Int64 → Int32 → FS → Prop} {Q : Int64 → FS → Prop} (h : Bd σ q) (hl : NmL σ i l) (k : Nat) (hk : k ≤ l.length) (hX7 : X7 x (nI (i + 1)) σ) : mw_newName_15 X7 x (nI i) (nI k) σ Q := by
  unfold mw_newName_15
  intro X hX
  have h1 := hl.1
  have h2 := hl.2.2.1
  have key : ∀ m k, k + m = l.length → X x (nI i) (nI k) σ := by
    intro m
    induction m with
    | zero =>
      intro k hk
      refine hX _ _ _ _ ?_
      simp (disch := omega) only [i_0, i_1, i_2, i_3, i_4, i_5, i_6, i_7, i_8, i_9, i_10, i_11, i_12, i_13, i_16, i_19, i_20, i_21, i_22, i_23, i_24, i_25, i_30, i_31, i_32, i_39, i_40, i_41, i_42, i_43, i_44, i_45, i_47, i_48, i_49, i_50, i_51, i_52, i_57, i_59, i_60, i_61, i_62, i_63, i_64, i_71, i_72, i_80, i_91, i_93, i_97, i_99, i_100, i_122, i_227, i_228, i_232, i_251, i_255, i_256, i_463, i_999, i_1000, i_1519, i_1600, i_9999, i_100000000, i_2147483639, i_2147483647, neg_nI1, nI_add, pk_mul, nI_remL, pk_sub, pk_div, nI_clamp, nI_leI, nI_ltI, nI_eq, vpT, nI_m1, m1_nI, nI_lem1, m1_le, m1_lt, nI_ltm1, nI_bit, nI_shl, nI_xor, nI_or, n_rem, forall_eq, true_and, and_true, implies_true, true_implies, false_implies, not_true_eq_false, not_false_eq_true, Nat.zero_add, Nat.add_zero, ite_true, ite_false, if_true, if_false, true_or, or_true, false_or, or_false, and_self, and_false, false_and, Nat.reduceEqDiff, reduceIte]
      rw [hl.2.1]
      simp (disch := omega) only [i_0, i_1, i_2, i_3, i_4, i_5, i_6, i_7, i_8, i_9, i_10, i_11, i_12, i_13, i_16, i_19, i_20, i_21, i_22, i_23, i_24, i_25, i_30, i_31, i_32, i_39, i_40, i_41, i_42, i_43, i_44, i_45, i_47, i_48, i_49, i_50, i_51, i_52, i_57, i_59, i_60, i_61, i_62, i_63, i_64, i_71, i_72, i_80, i_91, i_93, i_97, i_99, i_100, i_122, i_227, i_228, i_232, i_251, i_255, i_256, i_463, i_999, i_1000, i_1519, i_1600, i_9999, i_100000000, i_2147483639, i_2147483647, neg_nI1, nI_add, pk_mul, nI_remL, pk_sub, pk_div, nI_clamp, nI_leI, nI_ltI, nI_eq, vpT, nI_m1, m1_nI, nI_lem1, m1_le, m1_lt, nI_ltm1, nI_bit, nI_shl, nI_xor, nI_or, n_rem, forall_eq, true_and, and_true, implies_true, true_implies, false_implies, not_true_eq_false, not_false_eq_true, Nat.zero_add, Nat.add_zero, ite_true, ite_false, if_true, if_false, true_or, or_true, false_or, or_false, and_self, and_false, false_and, Nat.reduceEqDiff, reduceIte]
      exact ⟨fun _ => hX7, fun z => by omega⟩
    | succ m ih =>
      intro k hk
      refine hX _ _ _ _ ?_
      simp (disch := omega) only [i_0, i_1, i_2, i_3, i_4, i_5, i_6, i_7, i_8, i_9, i_10, i_11, i_12, i_13, i_16, i_19, i_20, i_21, i_22, i_23, i_24, i_25, i_30, i_31, i_32, i_39, i_40, i_41, i_42, i_43, i_44, i_45, i_47, i_48, i_49, i_50, i_51, i_52, i_57, i_59, i_60, i_61, i_62, i_63, i_64, i_71, i_72, i_80, i_91, i_93, i_97, i_99, i_100, i_122, i_227, i_228, i_232, i_251, i_255, i_256, i_463, i_999, i_1000, i_1519, i_1600, i_9999, i_100000000, i_2147483639, i_2147483647, neg_nI1, nI_add, pk_mul, nI_remL, pk_sub, pk_div, nI_clamp, nI_leI, nI_ltI, nI_eq, vpT, nI_m1, m1_nI, nI_lem1, m1_le, m1_lt, nI_ltm1, nI_bit, nI_shl, nI_xor, nI_or, n_rem, forall_eq, true_and, and_true, implies_true, true_implies, false_implies, not_true_eq_false, not_false_eq_true, Nat.zero_add, Nat.add_zero, ite_true, ite_false, if_true, if_false, true_or, or_true, false_or, or_false, and_self, and_false, false_and, Nat.reduceEqDiff, reduceIte]
      rw [hl.2.1]
      simp (disch := omega) only [i_0, i_1, i_2, i_3, i_4, i_5, i_6, i_7, i_8, i_9, i_10, i_11, i_12, i_13, i_16, i_19, i_20, i_21, i_22, i_23, i_24, i_25, i_30, i_31, i_32, i_39, i_40, i_41, i_42, i_43, i_44, i_45, i_47, i_48, i_49, i_50, i_51, i_52, i_57, i_59, i_60, i_61, i_62, i_63, i_64, i_71, i_72, i_80, i_91, i_93, i_97, i_99, i_100, i_122, i_227, i_228, i_232, i_251, i_255, i_256, i_463, i_999, i_1000, i_1519, i_1600, i_9999, i_100000000, i_2147483639, i_2147483647, neg_nI1, nI_add, pk_mul, nI_remL, pk_sub, pk_div, nI_clamp, nI_leI, nI_ltI, nI_eq, vpT, nI_m1, m1_nI, nI_lem1, m1_le, m1_lt, nI_ltm1, nI_bit, nI_shl, nI_xor, nI_or, n_rem, forall_eq, true_and, and_true, implies_true, true_implies, false_implies, not_true_eq_false, not_false_eq_true, Nat.zero_add, Nat.add_zero, ite_true, ite_false, if_true, if_false, true_or, or_true, false_or, or_false, and_self, and_false, false_and, Nat.reduceEqDiff, reduceIte]
      refine ⟨fun z => by omega, fun _ => ⟨fun _ => ?_, fun z => absurd z h.ne⟩⟩
      unfold mw_newName_59
      simp (disch := omega) only [i_0, i_1, i_2, i_3, i_4, i_5, i_6, i_7, i_8, i_9, i_10, i_11, i_12, i_13, i_16, i_19, i_20, i_21, i_22, i_23, i_24, i_25, i_30, i_31, i_32, i_39, i_40, i_41, i_42, i_43, i_44, i_45, i_47, i_48, i_49, i_50, i_51, i_52, i_57, i_59, i_60, i_61, i_62, i_63, i_64, i_71, i_72, i_80, i_91, i_93, i_97, i_99, i_100, i_122, i_227, i_228, i_232, i_251, i_255, i_256, i_463, i_999, i_1000, i_1519, i_1600, i_9999, i_100000000, i_2147483639, i_2147483647, neg_nI1, nI_add, pk_mul, nI_remL, pk_sub, pk_div, nI_clamp, nI_leI, nI_ltI, nI_eq, vpT, nI_m1, m1_nI, nI_lem1, m1_le, m1_lt, nI_ltm1, nI_bit, nI_shl, nI_xor, nI_or, n_rem, forall_eq, true_and, and_true, implies_true, true_implies, false_implies, not_true_eq_false, not_false_eq_true, Nat.zero_add, Nat.add_zero, ite_true, ite_false, if_true, if_false, true_or, or_true, false_or, or_false, and_self, and_false, false_and, Nat.reduceEqDiff, reduceIte]
      exact ih (k + 1) (by omega)
  exact key (l.length - k) k (by omega)
theorem ml_nn15 {σ : FS} {t : Nat → Nat} {e b i f : Nat} {l : List (List Nat)} {w : List Nat} {X7 : Int64 → Int32 → FS → Prop} {Q : Int64 → FS → Prop} (h : Tok σ t e b) (hl : NmL σ i l) (hw : nmOK w) (h38 : fI σ 0 38 = nI f) (hn : w ∉ l → X7 (lI (enc w)) (nI (i + 1)) σ) (hy : w ∈ l → ∀ σ', FT σ σ' → Bd σ' (3, f) → X7 (lI (enc w)) (nI (i + 1)) σ') : mw_newName_15 X7 (lI (enc w)) (nI i) (nI 0) σ Q := by
  unfold mw_newName_15
  intro X hX
  have h1 := hl.1
  have h2 := hl.2.2.1
  have key : ∀ m k, k + m = l.length → (∀ j v, j < k → l[j]? = some v → v ≠ w) → X (lI (enc w)) (nI i) (nI k) σ := by
    intro m
    induction m with
    | zero =>
      intro k hk hj
      refine hX _ _ _ _ ?_
      simp (disch := omega) only [i_0, i_1, i_2, i_3, i_4, i_5, i_6, i_7, i_8, i_9, i_10, i_11, i_12, i_13, i_16, i_19, i_20, i_21, i_22, i_23, i_24, i_25, i_30, i_31, i_32, i_39, i_40, i_41, i_42, i_43, i_44, i_45, i_47, i_48, i_49, i_50, i_51, i_52, i_57, i_59, i_60, i_61, i_62, i_63, i_64, i_71, i_72, i_80, i_91, i_93, i_97, i_99, i_100, i_122, i_227, i_228, i_232, i_251, i_255, i_256, i_463, i_999, i_1000, i_1519, i_1600, i_9999, i_100000000, i_2147483639, i_2147483647, neg_nI1, nI_add, pk_mul, nI_remL, pk_sub, pk_div, nI_clamp, nI_leI, nI_ltI, nI_eq, vpT, nI_m1, m1_nI, nI_lem1, m1_le, m1_lt, nI_ltm1, nI_bit, nI_shl, nI_xor, nI_or, n_rem, forall_eq, true_and, and_true, implies_true, true_implies, false_implies, not_true_eq_false, not_false_eq_true, Nat.zero_add, Nat.add_zero, ite_true, ite_false, if_true, if_false, true_or, or_true, false_or, or_false, and_self, and_false, false_and, Nat.reduceEqDiff, reduceIte]
      rw [hl.2.1]
      simp (disch := omega) only [i_0, i_1, i_2, i_3, i_4, i_5, i_6, i_7, i_8, i_9, i_10, i_11, i_12, i_13, i_16, i_19, i_20, i_21, i_22, i_23, i_24, i_25, i_30, i_31, i_32, i_39, i_40, i_41, i_42, i_43, i_44, i_45, i_47, i_48, i_49, i_50, i_51, i_52, i_57, i_59, i_60, i_61, i_62, i_63, i_64, i_71, i_72, i_80, i_91, i_93, i_97, i_99, i_100, i_122, i_227, i_228, i_232, i_251, i_255, i_256, i_463, i_999, i_1000, i_1519, i_1600, i_9999, i_100000000, i_2147483639, i_2147483647, neg_nI1, nI_add, pk_mul, nI_remL, pk_sub, pk_div, nI_clamp, nI_leI, nI_ltI, nI_eq, vpT, nI_m1, m1_nI, nI_lem1, m1_le, m1_lt, nI_ltm1, nI_bit, nI_shl, nI_xor, nI_or, n_rem, forall_eq, true_and, and_true, implies_true, true_implies, false_implies, not_true_eq_false, not_false_eq_true, Nat.zero_add, Nat.add_zero, ite_true, ite_false, if_true, if_false, true_or, or_true, false_or, or_false, and_self, and_false, false_and, Nat.reduceEqDiff, reduceIte]
      refine ⟨fun _ => hn (fun hm => ?_), fun z => by omega⟩
      obtain ⟨j, hj1, hj2⟩ := List.getElem_of_mem hm
      exact hj j _ (by omega) (List.getElem?_eq_getElem hj1) hj2
    | succ m ih =>
      intro k hk hj
      have hkl : k < l.length := by omega
      have hkv : l[k]? = some l[k] := List.getElem?_eq_getElem hkl
      refine hX _ _ _ _ ?_
      simp (disch := omega) only [i_0, i_1, i_2, i_3, i_4, i_5, i_6, i_7, i_8, i_9, i_10, i_11, i_12, i_13, i_16, i_19, i_20, i_21, i_22, i_23, i_24, i_25, i_30, i_31, i_32, i_39, i_40, i_41, i_42, i_43, i_44, i_45, i_47, i_48, i_49, i_50, i_51, i_52, i_57, i_59, i_60, i_61, i_62, i_63, i_64, i_71, i_72, i_80, i_91, i_93, i_97, i_99, i_100, i_122, i_227, i_228, i_232, i_251, i_255, i_256, i_463, i_999, i_1000, i_1519, i_1600, i_9999, i_100000000, i_2147483639, i_2147483647, neg_nI1, nI_add, pk_mul, nI_remL, pk_sub, pk_div, nI_clamp, nI_leI, nI_ltI, nI_eq, vpT, nI_m1, m1_nI, nI_lem1, m1_le, m1_lt, nI_ltm1, nI_bit, nI_shl, nI_xor, nI_or, n_rem, forall_eq, true_and, and_true, implies_true, true_implies, false_implies, not_true_eq_false, not_false_eq_true, Nat.zero_add, Nat.add_zero, ite_true, ite_false, if_true, if_false, true_or, or_true, false_or, or_false, and_self, and_false, false_and, Nat.reduceEqDiff, reduceIte]
      rw [hl.2.1]
      simp (disch := omega) only [i_0, i_1, i_2, i_3, i_4, i_5, i_6, i_7, i_8, i_9, i_10, i_11, i_12, i_13, i_16, i_19, i_20, i_21, i_22, i_23, i_24, i_25, i_30, i_31, i_32, i_39, i_40, i_41, i_42, i_43, i_44, i_45, i_47, i_48, i_49, i_50, i_51, i_52, i_57, i_59, i_60, i_61, i_62, i_63, i_64, i_71, i_72, i_80, i_91, i_93, i_97, i_99, i_100, i_122, i_227, i_228, i_232, i_251, i_255, i_256, i_463, i_999, i_1000, i_1519, i_1600, i_9999, i_100000000, i_2147483639, i_2147483647, neg_nI1, nI_add, pk_mul, nI_remL, pk_sub, pk_div, nI_clamp, nI_leI, nI_ltI, nI_eq, vpT, nI_m1, m1_nI, nI_lem1, m1_le, m1_lt, nI_ltm1, nI_bit, nI_shl, nI_xor, nI_or, n_rem, forall_eq, true_and, and_true, implies_true, true_implies, false_implies, not_true_eq_false, not_false_eq_true, Nat.zero_add, Nat.add_zero, ite_true, ite_false, if_true, if_false, true_or, or_true, false_or, or_false, and_self, and_false, false_and, Nat.reduceEqDiff, reduceIte]
      rw [hl.2.2.2.1 k _ hkv]
      simp only [lgc_eq, enc_lI (hl.2.2.2.2 _ (List.getElem_mem hkl)) hw]
      refine ⟨fun z => by omega, fun _ => ⟨fun z => absurd h.2.2.2.1 z, fun _ => ⟨fun z => ?_, fun z => ?_⟩⟩⟩
      · unfold mw_newName_59
        simp (disch := omega) only [i_0, i_1, i_2, i_3, i_4, i_5, i_6, i_7, i_8, i_9, i_10, i_11, i_12, i_13, i_16, i_19, i_20, i_21, i_22, i_23, i_24, i_25, i_30, i_31, i_32, i_39, i_40, i_41, i_42, i_43, i_44, i_45, i_47, i_48, i_49, i_50, i_51, i_52, i_57, i_59, i_60, i_61, i_62, i_63, i_64, i_71, i_72, i_80, i_91, i_93, i_97, i_99, i_100, i_122, i_227, i_228, i_232, i_251, i_255, i_256, i_463, i_999, i_1000, i_1519, i_1600, i_9999, i_100000000, i_2147483639, i_2147483647, neg_nI1, nI_add, pk_mul, nI_remL, pk_sub, pk_div, nI_clamp, nI_leI, nI_ltI, nI_eq, vpT, nI_m1, m1_nI, nI_lem1, m1_le, m1_lt, nI_ltm1, nI_bit, nI_shl, nI_xor, nI_or, n_rem, forall_eq, true_and, and_true, implies_true, true_implies, false_implies, not_true_eq_false, not_false_eq_true, Nat.zero_add, Nat.add_zero, ite_true, ite_false, if_true, if_false, true_or, or_true, false_or, or_false, and_self, and_false, false_and, Nat.reduceEqDiff, reduceIte]
        refine ih (k + 1) (by omega) (fun j v hj2 hv => ?_)
        by_cases hjk : j = k
        · subst hjk; rw [hkv] at hv; cases hv; exact z
        · exact hj j v (by omega) hv
      · rw [h38]
        refine ml_fail (q := (3, f)) h.2.2.2.1 (by simp) (fun σ5 hF5 hB5 => ?_)
        have hF5' : FT σ σ5 := hF5.wide (by decide) (by decide) (by decide)
        unfold mw_newName_59
        simp (disch := omega) only [i_0, i_1, i_2, i_3, i_4, i_5, i_6, i_7, i_8, i_9, i_10, i_11, i_12, i_13, i_16, i_19, i_20, i_21, i_22, i_23, i_24, i_25, i_30, i_31, i_32, i_39, i_40, i_41, i_42, i_43, i_44, i_45, i_47, i_48, i_49, i_50, i_51, i_52, i_57, i_59, i_60, i_61, i_62, i_63, i_64, i_71, i_72, i_80, i_91, i_93, i_97, i_99, i_100, i_122, i_227, i_228, i_232, i_251, i_255, i_256, i_463, i_999, i_1000, i_1519, i_1600, i_9999, i_100000000, i_2147483639, i_2147483647, neg_nI1, nI_add, pk_mul, nI_remL, pk_sub, pk_div, nI_clamp, nI_leI, nI_ltI, nI_eq, vpT, nI_m1, m1_nI, nI_lem1, m1_le, m1_lt, nI_ltm1, nI_bit, nI_shl, nI_xor, nI_or, n_rem, forall_eq, true_and, and_true, implies_true, true_implies, false_implies, not_true_eq_false, not_false_eq_true, Nat.zero_add, Nat.add_zero, ite_true, ite_false, if_true, if_false, true_or, or_true, false_or, or_false, and_self, and_false, false_and, Nat.reduceEqDiff, reduceIte]
        exact ml_nn15B (Q := Q) hB5 (hl.t hF5') (k + 1) (by omega) (hy (by rw [← z]; exact List.getElem_mem hkl) σ5 hF5' hB5) X hX
  exact key l.length 0 (by omega) (fun j v hj => by omega)
theorem ml_newNameB7 {σ : FS} {q : Nat × Nat} {lT lN : List (List Nat)} {x : Int64} {Q : Int64 → FS → Prop} (h : Bd σ q) (hT : NmL σ 0 lT) (hN : NmL σ 1 lN) (hQ : ∀ r, Q r σ) : mw_newName_7 x (nI 0) σ Q := by
  unfold mw_newName_7
  intro X hX
  have h2 : X x (nI 2) σ := hX _ _ _ ⟨fun _ => hQ _, fun z => absurd (by decide) z⟩
  have h1 : X x (nI 1) σ := hX _ _ _ ⟨fun z => absurd z (by decide), fun _ => ml_nn15B h hN 0 (by omega) h2⟩
  exact hX _ _ _ ⟨fun z => absurd z (by decide), fun _ => ml_nn15B h hT 0 (by omega) h1⟩
theorem ml_newNameB {σ : FS} {q : Nat × Nat} {lT lN : List (List Nat)} {Q : Int64 → FS → Prop} (h : Bd σ q) (hT : NmL σ 0 lT) (hN : NmL σ 1 lN) (hQ : ∀ r, Q r σ) : mw_newName σ Q := by
  unfold mw_newName
  exact ml_nameB h (ml_newNameB7 h hT hN hQ)
theorem ml_newName {σ : FS} {t : Nat → Nat} {e a : Nat} {P : Pl} {Q : Int64 → FS → Prop} (h : Tok σ t e a) (hT : NmL σ 0 (plT P)) (hN : NmL σ 1 (plN P))
    (ho : ∀ w b, pNew P t e a = .inl (w, b) → nmOK w → ∀ σ', FT σ σ' → Tok σ' t e b → Q (lI (enc w)) σ') (hx : ∀ q, pNew P t e a = .inr q → ∀ σ' r, FT σ σ' → Bd σ' q → Q r σ') : mw_newName σ Q := by
  unfold mw_newName
  refine ml_name h (fun w b f σ1 hp hw hF1 hT1 h38 => ?_) (fun q r σ1 hp hF1 hB1 => ml_newNameB7 hB1 (hT.t hF1) (hN.t hF1) (fun r => hx q (by unfold pNew; rw [hp]; rfl) σ1 r hF1 hB1))
  have hpn : pNew P t e a = if w ∈ plT P ∨ w ∈ plN P then .inr (3, f) else .inl (w, b) := by unfold pNew; rw [hp]; rfl
  unfold mw_newName_7
  intro X hX
  have bad2 : ∀ σ', (w ∈ plT P ∨ w ∈ plN P) → FT σ1 σ' → Bd σ' (3, f) → X (lI (enc w)) (nI 2) σ' := fun σ' hm hF hB => hX _ _ _ ⟨fun _ => hx (3, f) (by rw [hpn, if_pos hm]) σ' _ (hF1.trans hF) hB, fun z => absurd (by decide) z⟩
  have bad1 : ∀ σ', (w ∈ plT P ∨ w ∈ plN P) → FT σ1 σ' → Bd σ' (3, f) → X (lI (enc w)) (nI 1) σ' := fun σ' hm hF hB => hX _ _ _ ⟨fun z => absurd z (by decide), fun _ => ml_nn15B hB ((hN.t hF1).t hF) 0 (by omega) (bad2 σ' hm hF hB)⟩
  refine hX _ _ _ ⟨fun z => absurd z (by decide), fun _ => ml_nn15 hT1 (hT.t hF1) hw h38 (fun n1 => hX _ _ _ ⟨fun z => absurd z (by decide), fun _ => ml_nn15 hT1 (hN.t hF1) hw h38 (fun n2 => hX _ _ _ ⟨fun _ => ?_, fun z => absurd (by decide) z⟩) (fun hm σ' => bad2 σ' (Or.inr hm))⟩) (fun hm σ' => bad1 σ' (Or.inl hm))⟩
  exact ho w b (by rw [hpn, if_neg (by rintro (z | z); exact n1 z; exact n2 z)]) hw σ1 hF1 hT1
theorem ml_cellB {σ : FS} {q : Nat × Nat} {Q : Int32 → FS → Prop} (h : Bd σ q) (hQ : ∀ r, Q r σ) : mw_cellTold σ Q := by
  unfold mw_cellTold
  simp (disch := omega) only [i_0, i_1, i_2, i_3, i_4, i_5, i_6, i_7, i_8, i_9, i_10, i_11, i_12, i_13, i_16, i_19, i_20, i_21, i_22, i_23, i_24, i_25, i_30, i_31, i_32, i_39, i_40, i_41, i_42, i_43, i_44, i_45, i_47, i_48, i_49, i_50, i_51, i_52, i_57, i_59, i_60, i_61, i_62, i_63, i_64, i_71, i_72, i_80, i_91, i_93, i_97, i_99, i_100, i_122, i_227, i_228, i_232, i_251, i_255, i_256, i_463, i_999, i_1000, i_1519, i_1600, i_9999, i_100000000, i_2147483639, i_2147483647, neg_nI1, nI_add, pk_mul, nI_remL, pk_sub, pk_div, nI_clamp, nI_leI, nI_ltI, nI_eq, vpT, nI_m1, m1_nI, nI_lem1, m1_le, m1_lt, nI_ltm1, nI_bit, nI_shl, nI_xor, nI_or, n_rem, forall_eq, true_and, and_true, implies_true, true_implies, false_implies, not_true_eq_false, not_false_eq_true, Nat.zero_add, Nat.add_zero, ite_true, ite_false, if_true, if_false, true_or, or_true, false_or, or_false, and_self, and_false, false_and, Nat.reduceEqDiff, reduceIte]
  exact ml_numberB h (ml_numberB h ⟨fun _ => hQ _, fun z => absurd z h.ne⟩)
theorem ml_cell {σ : FS} {t : Nat → Nat} {e a : Nat} {P : Pl} {Q : Int32 → FS → Prop} (h : Tok σ t e a) (h0 : fA σ 39 0 = nI (plC P)) (h1 : fA σ 39 1 = nI (plR P)) (hC : 3 ≤ plC P ∧ plC P ≤ 7) (hR : 3 ≤ plR P ∧ plR P ≤ 7)
    (ho : ∀ c f b, pCell P t e a = .inl ((c, f), b) → isC P c → ∀ σ', FT σ σ' → Tok σ' t e b → fI σ' 0 10 = nI f → Q (nI (c7 c)) σ') (hx : ∀ q, pCell P t e a = .inr q → ∀ σ' r, FT σ σ' → Bd σ' q → Q r σ') : mw_cellTold σ Q := by
  unfold mw_cellTold
  simp (disch := omega) only [i_0, i_1, i_2, i_3, i_4, i_5, i_6, i_7, i_8, i_9, i_10, i_11, i_12, i_13, i_16, i_19, i_20, i_21, i_22, i_23, i_24, i_25, i_30, i_31, i_32, i_39, i_40, i_41, i_42, i_43, i_44, i_45, i_47, i_48, i_49, i_50, i_51, i_52, i_57, i_59, i_60, i_61, i_62, i_63, i_64, i_71, i_72, i_80, i_91, i_93, i_97, i_99, i_100, i_122, i_227, i_228, i_232, i_251, i_255, i_256, i_463, i_999, i_1000, i_1519, i_1600, i_9999, i_100000000, i_2147483639, i_2147483647, neg_nI1, nI_add, pk_mul, nI_remL, pk_sub, pk_div, nI_clamp, nI_leI, nI_ltI, nI_eq, vpT, nI_m1, m1_nI, nI_lem1, m1_le, m1_lt, nI_ltm1, nI_bit, nI_shl, nI_xor, nI_or, n_rem, forall_eq, true_and, and_true, implies_true, true_implies, false_implies, not_true_eq_false, not_false_eq_true, Nat.zero_add, Nat.add_zero, ite_true, ite_false, if_true, if_false, true_or, or_true, false_or, or_false, and_self, and_false, false_and, Nat.reduceEqDiff, reduceIte]
  rw [h0]
  simp (disch := omega) only [i_0, i_1, i_2, i_3, i_4, i_5, i_6, i_7, i_8, i_9, i_10, i_11, i_12, i_13, i_16, i_19, i_20, i_21, i_22, i_23, i_24, i_25, i_30, i_31, i_32, i_39, i_40, i_41, i_42, i_43, i_44, i_45, i_47, i_48, i_49, i_50, i_51, i_52, i_57, i_59, i_60, i_61, i_62, i_63, i_64, i_71, i_72, i_80, i_91, i_93, i_97, i_99, i_100, i_122, i_227, i_228, i_232, i_251, i_255, i_256, i_463, i_999, i_1000, i_1519, i_1600, i_9999, i_100000000, i_2147483639, i_2147483647, neg_nI1, nI_add, pk_mul, nI_remL, pk_sub, pk_div, nI_clamp, nI_leI, nI_ltI, nI_eq, vpT, nI_m1, m1_nI, nI_lem1, m1_le, m1_lt, nI_ltm1, nI_bit, nI_shl, nI_xor, nI_or, n_rem, forall_eq, true_and, and_true, implies_true, true_implies, false_implies, not_true_eq_false, not_false_eq_true, Nat.zero_add, Nat.add_zero, ite_true, ite_false, if_true, if_false, true_or, or_true, false_or, or_false, and_self, and_false, false_and, Nat.reduceEqDiff, reduceIte]
  refine ml_number (lo := 0) (hi := plC P - 1) h (by decide) (by omega) (fun v b f σ1 hp hF1 hT1 h10 hv1 hv2 => ?_) (fun q r σ1 hp hF1 hB1 => ml_numberB hB1 ⟨fun _ => hx q (by unfold pCell; rw [hp]; rfl) σ1 _ hF1 hB1, fun z => absurd z hB1.ne⟩)
  rw [show fA σ1 39 1 = nI (plR P) by rw [hF1.2.1 39 (by simp)]; exact h1]
  simp (disch := omega) only [i_0, i_1, i_2, i_3, i_4, i_5, i_6, i_7, i_8, i_9, i_10, i_11, i_12, i_13, i_16, i_19, i_20, i_21, i_22, i_23, i_24, i_25, i_30, i_31, i_32, i_39, i_40, i_41, i_42, i_43, i_44, i_45, i_47, i_48, i_49, i_50, i_51, i_52, i_57, i_59, i_60, i_61, i_62, i_63, i_64, i_71, i_72, i_80, i_91, i_93, i_97, i_99, i_100, i_122, i_227, i_228, i_232, i_251, i_255, i_256, i_463, i_999, i_1000, i_1519, i_1600, i_9999, i_100000000, i_2147483639, i_2147483647, neg_nI1, nI_add, pk_mul, nI_remL, pk_sub, pk_div, nI_clamp, nI_leI, nI_ltI, nI_eq, vpT, nI_m1, m1_nI, nI_lem1, m1_le, m1_lt, nI_ltm1, nI_bit, nI_shl, nI_xor, nI_or, n_rem, forall_eq, true_and, and_true, implies_true, true_implies, false_implies, not_true_eq_false, not_false_eq_true, Nat.zero_add, Nat.add_zero, ite_true, ite_false, if_true, if_false, true_or, or_true, false_or, or_false, and_self, and_false, false_and, Nat.reduceEqDiff, reduceIte]
  refine ml_number (lo := 0) (hi := plR P - 1) hT1 (by decide) (by omega) (fun v2 b2 f2 σ2 hp2 hF2 hT2 h102 hw1 hw2 => ?_) (fun q r σ2 hp2 hF2 hB2 => ⟨fun _ => hx q (by unfold pCell; rw [hp, pB_inl]; simp only; rw [hp2]; rfl) σ2 _ (hF1.trans hF2) hB2, fun z => absurd z hB2.ne⟩)
  refine ⟨fun z => absurd hT2.2.2.2.1 z, fun _ => ?_⟩
  have hq := ho (8 * v2 + v) f2 b2 (by unfold pCell; rw [hp, pB_inl]; simp only; rw [hp2]; rfl) ⟨by omega, by omega⟩ σ2 (hF1.trans hF2) hT2 h102
  have e1 : c7 (8 * v2 + v) = v + 7 * v2 := by unfold c7; omega
  rw [e1] at hq
  simp (disch := omega) only [i_0, i_1, i_2, i_3, i_4, i_5, i_6, i_7, i_8, i_9, i_10, i_11, i_12, i_13, i_16, i_19, i_20, i_21, i_22, i_23, i_24, i_25, i_30, i_31, i_32, i_39, i_40, i_41, i_42, i_43, i_44, i_45, i_47, i_48, i_49, i_50, i_51, i_52, i_57, i_59, i_60, i_61, i_62, i_63, i_64, i_71, i_72, i_80, i_91, i_93, i_97, i_99, i_100, i_122, i_227, i_228, i_232, i_251, i_255, i_256, i_463, i_999, i_1000, i_1519, i_1600, i_9999, i_100000000, i_2147483639, i_2147483647, neg_nI1, nI_add, pk_mul, nI_remL, pk_sub, pk_div, nI_clamp, nI_leI, nI_ltI, nI_eq, vpT, nI_m1, m1_nI, nI_lem1, m1_le, m1_lt, nI_ltm1, nI_bit, nI_shl, nI_xor, nI_or, n_rem]
  exact hq
/-- the end of a statement -/
theorem ml_finB {σ0 σ : FS} {q : Nat × Nat} {Q : FS → Prop} (h : Bd σ q) (hP : Pf σ0 σ) (hQ : ∀ σ', Pf σ0 σ' → Bd σ' q → Q σ') : mw_statementTold_195 σ Q := by
  unfold mw_statementTold_195
  refine ml_asksB h ?_
  simp only [forall_eq]
  have hF : Fm [49] [] [] σ (sI σ 0 49 (fI σ 0 49 + 1)) := Fm.sI σ _ (by decide)
  exact hQ _ (hP.trans (Pf.ofFm hF (by decide) (by decide))) (h.fm hF (by decide) (by decide))
theorem Dm.up {σ : FS} {D : Dr} {n u : Nat} (h : Dm σ D n u) (hn : n < 80) : Dm (sI σ 0 49 (nI (n + 1))) D (n + 1) u := by
  obtain ⟨h1, h2, h3, h4, h5, h6, h7, h8⟩ := h
  exact ⟨⟨by rw [fI_sI]; simp, by omega, by rw [fI_sI]; simpa using h1.2.2.1, h1.2.2.2⟩, h2, h3, h4, h5, h6, h7, ⟨h8.1.eqv rfl rfl rfl, h8.2.1.eqv rfl rfl rfl, h8.2.2.eqv rfl rfl rfl⟩⟩
theorem ml_fin {σ0 σ : FS} {t : Nat → Nat} {e b n u : Nat} {D : Dr} {Q : FS → Prop} (h : Tok σ t e b) (hD : Dm σ D n u) (hn : n < 80) (hu : u ≤ b) (hP : Pf σ0 σ)
    (ho : ∀ b', pFin D t e b = .inl (D, b') → ∀ σ', Pf σ0 σ' → Tok σ' t e b' → Dm σ' D (n + 1) u → u ≤ b' → Q σ') (hx : ∀ q, pFin D t e b = .inr q → ∀ σ', Pf σ0 σ' → Bd σ' q → Q σ') : mw_statementTold_195 σ Q := by
  have hlk := lk_spec (t := t) h.2.2.1
  unfold mw_statementTold_195
  refine ml_asksSign (c := 59) h (by decide) (by decide) (by decide) (fun b' σ1 hp hF1 hT1 => ?_) (fun q σ1 hp hF1 hB1 => ?_)
  · have hb := pSign_ok h.2.2.1 (by decide) hp
    simp only [forall_eq]
    have hD1 := hD.t hF1
    rw [hD1.1.1, show nI n + 1 = nI (n + 1) from nI_add _ 1]
    have hF : Fm [49] [] [] σ1 (sI σ1 0 49 (nI (n + 1))) := Fm.sI σ1 _ (by decide)
    refine ho b' (by unfold pFin; rw [hp]; rfl) _ (hP.trans ((FT.p hF1).trans (Pf.ofFm hF (by decide) (by decide)))) ?_ (hD1.up hn) (by omega)
    exact ⟨hT1.1.fm hF (by decide) (by simp), by rw [hF.1 2 (by decide)]; exact hT1.2.1, hT1.2.2.1, by rw [hF.1 5 (by decide)]; exact hT1.2.2.2.1, hT1.2.2.2.2.eqv (hF.1 4 (by decide)) (hF.1 6 (by decide))⟩
  · simp only [forall_eq]
    have hF : Fm [49] [] [] σ1 (sI σ1 0 49 (fI σ1 0 49 + 1)) := Fm.sI σ1 _ (by decide)
    exact hx q (by unfold pFin; rw [hp]; rfl) _ (hP.trans ((FT.p hF1).trans (Pf.ofFm hF (by decide) (by decide)))) (hB1.fm hF (by decide) (by decide))
