/-! THE REFERENCE: persons, knowledge, lists -/
theorem pCell_ok {P : Pl} {t : Nat → Nat} {e a b c f : Nat} (ha : a ≤ e) (h : pCell P t e a = .inl ((c, f), b)) : a < b ∧ b ≤ e := by
  unfold pCell at h
  obtain ⟨x, b1, q1, q2⟩ := pB_ok h
  obtain ⟨y, b3, q3, q4⟩ := pB_ok q2
  have r1 := pNum_ok ha q1
  have r2 := pNum_ok r1.2.2.1 q3
  cases q4
  omega
theorem pExp_ok {w : List Nat} {t : Nat → Nat} {e a b : Nat} (ha : a ≤ e) (h : pExp w t e a = .inl ((), b)) : a < b ∧ b ≤ e := by
  unfold pExp at h
  obtain ⟨q, b1, h1, h2⟩ := pB_ok h
  have r := pWord_ok ha h1
  split at h2
  · cases h2; omega
  · cases h2
theorem pOf_ok {l : List (List Nat)} {t : Nat → Nat} {e a b j f : Nat} (ha : a ≤ e) (h : pOf l t e a = .inl ((j, f), b)) : a < b ∧ b ≤ e := by
  unfold pOf pName at h
  obtain ⟨q, b1, h1, h2⟩ := pB_ok h
  obtain ⟨q2, b2, h3, h4⟩ := pB_ok h1
  have r := pWord_ok ha h3
  split at h4
  · cases h4
  · split at h4
    · cases h4
    · cases h4
      split at h2
      · cases h2; omega
      · cases h2
theorem tkn_iff {D : Dr} {c : Nat} : tkn D c = true ↔ ∃ p, p < nP D.1 ∧ dA D p = c := by
  unfold tkn
  rw [List.any_eq_true]
  constructor
  · rintro ⟨p, h1, h2⟩; exact ⟨p, List.mem_range.mp h1, by simpa using h2⟩
  · rintro ⟨p, h1, h2⟩; exact ⟨p, List.mem_range.mpr h1, by simpa using h2⟩
/-- in a fault the walk over the persons does nothing -/
theorem ml_pers34B {σ : FS} {q : Nat × Nat} {m : Nat} {x2 : Int64} {x4 : Int32} {Q : FS → Prop} (h : Bd σ q) (hm : fA σ 40 1 = nI m) (hm7 : m ≤ 7) (k : Nat) (hk : k ≤ m) (hQ : Q σ) : mw_personTold_34 x2 x4 (nI k) σ Q := by
  unfold mw_personTold_34
  intro X hX
  have key : ∀ j k, k + j = m → X x2 x4 (nI k) σ := by
    intro j
    induction j with
    | zero =>
      intro k hk
      refine hX _ _ _ _ ?_
      simp (disch := omega) only [i_0, i_1, i_2, i_3, i_4, i_5, i_6, i_7, i_8, i_9, i_10, i_11, i_12, i_13, i_16, i_19, i_20, i_21, i_22, i_23, i_24, i_25, i_30, i_31, i_32, i_39, i_40, i_41, i_42, i_43, i_44, i_45, i_47, i_48, i_49, i_50, i_51, i_52, i_57, i_59, i_60, i_61, i_62, i_63, i_64, i_71, i_72, i_80, i_91, i_93, i_97, i_99, i_100, i_122, i_227, i_228, i_232, i_251, i_255, i_256, i_463, i_999, i_1000, i_1519, i_1600, i_9999, i_100000000, i_2147483639, i_2147483647, neg_nI1, nI_add, pk_mul, nI_remL, pk_sub, pk_div, nI_clamp, nI_leI, nI_ltI, nI_eq, vpT, nI_m1, m1_nI, nI_lem1, m1_le, m1_lt, nI_ltm1, nI_bit, nI_shl, nI_xor, nI_or, n_rem, forall_eq, true_and, and_true, implies_true, true_implies, false_implies, not_true_eq_false, not_false_eq_true, Nat.zero_add, Nat.add_zero, ite_true, ite_false, if_true, if_false, true_or, or_true, false_or, or_false, and_self, and_false, false_and, Nat.reduceEqDiff, reduceIte]
      rw [hm]
      simp (disch := omega) only [i_0, i_1, i_2, i_3, i_4, i_5, i_6, i_7, i_8, i_9, i_10, i_11, i_12, i_13, i_16, i_19, i_20, i_21, i_22, i_23, i_24, i_25, i_30, i_31, i_32, i_39, i_40, i_41, i_42, i_43, i_44, i_45, i_47, i_48, i_49, i_50, i_51, i_52, i_57, i_59, i_60, i_61, i_62, i_63, i_64, i_71, i_72, i_80, i_91, i_93, i_97, i_99, i_100, i_122, i_227, i_228, i_232, i_251, i_255, i_256, i_463, i_999, i_1000, i_1519, i_1600, i_9999, i_100000000, i_2147483639, i_2147483647, neg_nI1, nI_add, pk_mul, nI_remL, pk_sub, pk_div, nI_clamp, nI_leI, nI_ltI, nI_eq, vpT, nI_m1, m1_nI, nI_lem1, m1_le, m1_lt, nI_ltm1, nI_bit, nI_shl, nI_xor, nI_or, n_rem, forall_eq, true_and, and_true, implies_true, true_implies, false_implies, not_true_eq_false, not_false_eq_true, Nat.zero_add, Nat.add_zero, ite_true, ite_false, if_true, if_false, true_or, or_true, false_or, or_false, and_self, and_false, false_and, Nat.reduceEqDiff, reduceIte]
      exact ⟨fun _ => ml_needsB h (ml_numberB h ⟨fun z => absurd z h.ne, fun _ => hQ⟩), fun z => by omega⟩
    | succ j ih =>
      intro k hk
      refine hX _ _ _ _ ?_
      simp (disch := omega) only [i_0, i_1, i_2, i_3, i_4, i_5, i_6, i_7, i_8, i_9, i_10, i_11, i_12, i_13, i_16, i_19, i_20, i_21, i_22, i_23, i_24, i_25, i_30, i_31, i_32, i_39, i_40, i_41, i_42, i_43, i_44, i_45, i_47, i_48, i_49, i_50, i_51, i_52, i_57, i_59, i_60, i_61, i_62, i_63, i_64, i_71, i_72, i_80, i_91, i_93, i_97, i_99, i_100, i_122, i_227, i_228, i_232, i_251, i_255, i_256, i_463, i_999, i_1000, i_1519, i_1600, i_9999, i_100000000, i_2147483639, i_2147483647, neg_nI1, nI_add, pk_mul, nI_remL, pk_sub, pk_div, nI_clamp, nI_leI, nI_ltI, nI_eq, vpT, nI_m1, m1_nI, nI_lem1, m1_le, m1_lt, nI_ltm1, nI_bit, nI_shl, nI_xor, nI_or, n_rem, forall_eq, true_and, and_true, implies_true, true_implies, false_implies, not_true_eq_false, not_false_eq_true, Nat.zero_add, Nat.add_zero, ite_true, ite_false, if_true, if_false, true_or, or_true, false_or, or_false, and_self, and_false, false_and, Nat.reduceEqDiff, reduceIte]
      rw [hm]
      simp (disch := omega) only [i_0, i_1, i_2, i_3, i_4, i_5, i_6, i_7, i_8, i_9, i_10, i_11, i_12, i_13, i_16, i_19, i_20, i_21, i_22, i_23, i_24, i_25, i_30, i_31, i_32, i_39, i_40, i_41, i_42, i_43, i_44, i_45, i_47, i_48, i_49, i_50, i_51, i_52, i_57, i_59, i_60, i_61, i_62, i_63, i_64, i_71, i_72, i_80, i_91, i_93, i_97, i_99, i_100, i_122, i_227, i_228, i_232, i_251, i_255, i_256, i_463, i_999, i_1000, i_1519, i_1600, i_9999, i_100000000, i_2147483639, i_2147483647, neg_nI1, nI_add, pk_mul, nI_remL, pk_sub, pk_div, nI_clamp, nI_leI, nI_ltI, nI_eq, vpT, nI_m1, m1_nI, nI_lem1, m1_le, m1_lt, nI_ltm1, nI_bit, nI_shl, nI_xor, nI_or, n_rem, forall_eq, true_and, and_true, implies_true, true_implies, false_implies, not_true_eq_false, not_false_eq_true, Nat.zero_add, Nat.add_zero, ite_true, ite_false, if_true, if_false, true_or, or_true, false_or, or_false, and_self, and_false, false_and, Nat.reduceEqDiff, reduceIte]
      refine ⟨fun z => by omega, fun _ => ⟨fun _ => ?_, fun z => absurd z h.ne⟩⟩
      unfold mw_personTold_75
      simp (disch := omega) only [i_0, i_1, i_2, i_3, i_4, i_5, i_6, i_7, i_8, i_9, i_10, i_11, i_12, i_13, i_16, i_19, i_20, i_21, i_22, i_23, i_24, i_25, i_30, i_31, i_32, i_39, i_40, i_41, i_42, i_43, i_44, i_45, i_47, i_48, i_49, i_50, i_51, i_52, i_57, i_59, i_60, i_61, i_62, i_63, i_64, i_71, i_72, i_80, i_91, i_93, i_97, i_99, i_100, i_122, i_227, i_228, i_232, i_251, i_255, i_256, i_463, i_999, i_1000, i_1519, i_1600, i_9999, i_100000000, i_2147483639, i_2147483647, neg_nI1, nI_add, pk_mul, nI_remL, pk_sub, pk_div, nI_clamp, nI_leI, nI_ltI, nI_eq, vpT, nI_m1, m1_nI, nI_lem1, m1_le, m1_lt, nI_ltm1, nI_bit, nI_shl, nI_xor, nI_or, n_rem, forall_eq, true_and, and_true, implies_true, true_implies, false_implies, not_true_eq_false, not_false_eq_true, Nat.zero_add, Nat.add_zero, ite_true, ite_false, if_true, if_false, true_or, or_true, false_or, or_false, and_self, and_false, false_and, Nat.reduceEqDiff, reduceIte]
      exact ih (k + 1) (by omega)
  exact key (m - k) k (by omega)
theorem ml_pers {σ0 σ : FS} {t : Nat → Nat} {e a n u pl : Nat} {D : Dr} {Q : FS → Prop} (h : Tok σ t e a) (hD : Dm σ D n u) (hd : drOK D) (hn : n < 80) (hu : u ≤ a) (hP : Pf σ0 σ)
    (ho : ∀ D' b, pPers D pl t e a = .inl (D', b) → ∀ σ' u', Pf σ0 σ' → Tok σ' t e b → Dm σ' D' (n + 1) u' → u' ≤ b → drOK D' → Q σ') (hx : ∀ q, pPers D pl t e a = .inr q → ∀ σ', Pf σ0 σ' → Bd σ' q → Q σ') : mw_personTold (nI pl) σ (fun σ28 => mw_statementTold_195 σ28 Q) := by
  have h7 := hd.1.2.2.2.2.1
  have bad : ∀ q, pPers D pl t e a = .inr q → ∀ σ1, FT σ σ1 → Bd σ1 q → mw_statementTold_195 σ1 Q := fun q hp σ1 hF1 hB1 => ml_finB hB1 (hP.trans (FT.p hF1)) (fun σ' hP' hB' => hx q hp σ' hP' hB')
  have bad34 : ∀ q, pPers D pl t e a = .inr q → ∀ σ1, FT σ σ1 → Bd σ1 q → ∀ x2 x4 k, k ≤ nP D.1 → mw_personTold_34 x2 x4 (nI k) σ1 (fun σ28 => mw_statementTold_195 σ28 Q) := fun q hp σ1 hF1 hB1 x2 x4 k hk => ml_pers34B hB1 (hD.t hF1).2.2.1.2.1 h7 k hk (bad q hp σ1 hF1 hB1)
  unfold mw_personTold
  refine ml_isFull (i := 1) (m := 7) h (by decide) hD.2.2.1.2.1 (by omega) (by decide) (fun hne => ⟨fun _ => ?_, fun z => absurd rfl z⟩) (fun heq σ1 hF1 hB1 => ⟨fun z => absurd z (by decide), fun _ => bad _ (by unfold pPers; rw [if_pos heq]) σ1 hF1 hB1⟩)
  have hpt : pPers D pl t e a = pB (pNew D.1 t e a) (fun w b => pB (pExp (str 16) t e b) (fun _ b2 => pB (pCell D.1 t e b2) (fun q b3 => if tkn D q.1 = true then .inr (2, q.2) else
    pB (pExp (str 17) t e b3) (fun _ b4 => pB (pNum 0 9 t e b4) (fun v b5 => pFin (addN D.1 w, dH D, up (dA D) (nP D.1) q.1, up (dT D) (nP D.1) v.1, up (dK D) (nP D.1) 0) t e b5))))) := by unfold pPers; rw [if_neg hne]
  refine ml_newName h (hD.nt hd) (hD.nn hd) (fun w b hp hw σ1 hF1 hT1 => ?_) (fun q hp σ1 r hF1 hB1 => ml_needsB hB1 (ml_cellB hB1 (fun r2 => bad34 q (by rw [hpt, hp]; rfl) σ1 hF1 hB1 _ _ 0 (by omega))))
  rw [hp, pB_inl] at hpt
  simp only at hpt
  have hnw := pNew_ok h.2.2.1 hp
  refine ml_needs (k := 16) hT1 (by unfold mok; decide) (by decide) (by decide) (fun b2 σ2 hp2 hF2 hT2 => ?_) (fun q σ2 hp2 hF2 hB2 => ml_cellB hB2 (fun r2 => bad34 q (by rw [hpt, hp2]; rfl) σ2 (hF1.trans hF2) hB2 _ _ 0 (by omega)))
  rw [hp2, pB_inl] at hpt
  simp only at hpt
  have hF02 := hF1.trans hF2
  have hab2 := pExp_ok hT1.2.2.1 hp2
  refine ml_cell hT2 (hD.t hF02).2.1.1 (hD.t hF02).2.1.2.1 hd.1.1 hd.1.2.1 (fun c f b3 hp3 hc σ3 hF3 hT3 h10 => ?_) (fun q hp3 σ3 r hF3 hB3 => bad34 q (by rw [hpt, hp3]; rfl) σ3 (hF02.trans hF3) hB3 _ _ 0 (by omega))
  rw [hp3, pB_inl] at hpt
  simp only at hpt
  have hF03 := hF02.trans hF3
  have hab3 := pCell_ok hT2.2.2.1 hp3
  have hD3 := hD.t hF03
  have hc49 := c7_lt hd.1 hc
  have hcm := isC_lt hd.1 hc
  unfold mw_personTold_34
  intro X hX
  have key : ∀ m k, k + m = nP D.1 → (∀ p, p < k → dA D p ≠ c) → X (lI (enc w)) (nI (c7 c)) (nI k) σ3 := by
    intro m
    induction m with
    | zero =>
      intro k hk hno
      have htk : ¬ tkn D c = true := fun z => by
        obtain ⟨p, z1, z2⟩ := tkn_iff.mp z
        exact hno p (by omega) z2
      rw [if_neg htk] at hpt
      refine hX _ _ _ _ ?_
      simp (disch := omega) only [i_0, i_1, i_2, i_3, i_4, i_5, i_6, i_7, i_8, i_9, i_10, i_11, i_12, i_13, i_16, i_19, i_20, i_21, i_22, i_23, i_24, i_25, i_30, i_31, i_32, i_39, i_40, i_41, i_42, i_43, i_44, i_45, i_47, i_48, i_49, i_50, i_51, i_52, i_57, i_59, i_60, i_61, i_62, i_63, i_64, i_71, i_72, i_80, i_91, i_93, i_97, i_99, i_100, i_122, i_227, i_228, i_232, i_251, i_255, i_256, i_463, i_999, i_1000, i_1519, i_1600, i_9999, i_100000000, i_2147483639, i_2147483647, neg_nI1, nI_add, pk_mul, nI_remL, pk_sub, pk_div, nI_clamp, nI_leI, nI_ltI, nI_eq, vpT, nI_m1, m1_nI, nI_lem1, m1_le, m1_lt, nI_ltm1, nI_bit, nI_shl, nI_xor, nI_or, n_rem, forall_eq, true_and, and_true, implies_true, true_implies, false_implies, not_true_eq_false, not_false_eq_true, Nat.zero_add, Nat.add_zero, ite_true, ite_false, if_true, if_false, true_or, or_true, false_or, or_false, and_self, and_false, false_and, Nat.reduceEqDiff, reduceIte]
      rw [hD3.2.2.1.2.1]
      simp (disch := omega) only [i_0, i_1, i_2, i_3, i_4, i_5, i_6, i_7, i_8, i_9, i_10, i_11, i_12, i_13, i_16, i_19, i_20, i_21, i_22, i_23, i_24, i_25, i_30, i_31, i_32, i_39, i_40, i_41, i_42, i_43, i_44, i_45, i_47, i_48, i_49, i_50, i_51, i_52, i_57, i_59, i_60, i_61, i_62, i_63, i_64, i_71, i_72, i_80, i_91, i_93, i_97, i_99, i_100, i_122, i_227, i_228, i_232, i_251, i_255, i_256, i_463, i_999, i_1000, i_1519, i_1600, i_9999, i_100000000, i_2147483639, i_2147483647, neg_nI1, nI_add, pk_mul, nI_remL, pk_sub, pk_div, nI_clamp, nI_leI, nI_ltI, nI_eq, vpT, nI_m1, m1_nI, nI_lem1, m1_le, m1_lt, nI_ltm1, nI_bit, nI_shl, nI_xor, nI_or, n_rem, forall_eq, true_and, and_true, implies_true, true_implies, false_implies, not_true_eq_false, not_false_eq_true, Nat.zero_add, Nat.add_zero, ite_true, ite_false, if_true, if_false, true_or, or_true, false_or, or_false, and_self, and_false, false_and, Nat.reduceEqDiff, reduceIte]
      refine ⟨fun _ => ?_, fun z => by omega⟩
      refine ml_needs (k := 17) hT3 (by unfold mok; decide) (by decide) (by decide) (fun b4 σ4 hp4 hF4 hT4 => ?_) (fun q σ4 hp4 hF4 hB4 => ml_numberB hB4 ⟨fun z => absurd z hB4.ne, fun _ => bad q (by rw [hpt, hp4]; rfl) σ4 (hF03.trans hF4) hB4⟩)
      rw [hp4, pB_inl] at hpt
      simp only at hpt
      have hF04 := hF03.trans hF4
      have hab4 := pExp_ok hT3.2.2.1 hp4
      refine ml_number (lo := 0) (hi := 9) hT4 (by decide) (by decide) (fun v b5 f5 σ5 hp5 hF5 hT5 h105 hv1 hv2 => ?_) (fun q r σ5 hp5 hF5 hB5 => ⟨fun z => absurd z hB5.ne, fun _ => bad q (by rw [hpt, hp5]; rfl) σ5 (hF04.trans hF5) hB5⟩)
      rw [hp5, pB_inl] at hpt
      simp only at hpt
      have hF05 := hF04.trans hF5
      have hD5 := hD.t hF05
      have hab5 := pNum_ok hT4.2.2.1 hp5
      refine ⟨fun _ => ?_, fun z => absurd hT5.2.2.2.1 z⟩
      have h40 : fA σ5 40 1 = nI (nP D.1) := hD5.2.2.1.2.1
      rw [h40]
      have hN6 : nP D.1 ≤ 6 := by omega
      simp (disch := omega) only [i_0, i_1, i_2, i_3, i_4, i_5, i_6, i_7, i_8, i_9, i_10, i_11, i_12, i_13, i_16, i_19, i_20, i_21, i_22, i_23, i_24, i_25, i_30, i_31, i_32, i_39, i_40, i_41, i_42, i_43, i_44, i_45, i_47, i_48, i_49, i_50, i_51, i_52, i_57, i_59, i_60, i_61, i_62, i_63, i_64, i_71, i_72, i_80, i_91, i_93, i_97, i_99, i_100, i_122, i_227, i_228, i_232, i_251, i_255, i_256, i_463, i_999, i_1000, i_1519, i_1600, i_9999, i_100000000, i_2147483639, i_2147483647, neg_nI1, nI_add, pk_mul, nI_remL, pk_sub, pk_div, nI_clamp, nI_leI, nI_ltI, nI_eq, vpT, nI_m1, m1_nI, nI_lem1, m1_le, m1_lt, nI_ltm1, nI_bit, nI_shl, nI_xor, nI_or, n_rem, forall_eq, true_and, and_true, implies_true, true_implies, false_implies, not_true_eq_false, not_false_eq_true, Nat.zero_add, Nat.add_zero, ite_true, ite_false, if_true, if_false, true_or, or_true, false_or, or_false, and_self, and_false, false_and, Nat.reduceEqDiff, reduceIte]
      have h40' : ∀ (i1 i2 i3 : Nat) (v1 v2 v3 : Int32), fA (sA (sA (sA (sB σ5 41 (8 + nP D.1) (lI ↑(enc w))) 43 i1 v1) 43 i2 v2) 43 i3 v3) 40 1 = nI (nP D.1) := by
        intro i1 i2 i3 v1 v2 v3
        rw [fA_sA, if_neg (by omega), fA_sA, if_neg (by omega), fA_sA, if_neg (by omega)]
        exact h40
      rw [h40', nI_add]
      have hnp : nP (addN D.1 w) = nP D.1 + 1 := by unfold nP addN plN; simp
      have hok : drOK (addN D.1 w, dH D, up (dA D) (nP D.1) c, up (dT D) (nP D.1) v, up (dK D) (nP D.1) 0) := by
        obtain ⟨⟨g1, g2, g3, g4, g5, g6, g7, g8, g9, g10⟩, ⟨s1, s2, s3, s4⟩, w1⟩ := hd
        refine ⟨⟨g1, g2, g3, g4, by rw [hnp]; omega, g6, fun q hq => ?_, g8, g9, g10⟩, ⟨s1, s2, fun p hp => ?_, s4⟩, fun x hx => ?_⟩
        · have := g7 q hq
          exact ⟨by rw [hnp]; omega, this.2⟩
        · have hp2 : p < nP D.1 + 1 := by rw [← hnp]; exact hp
          show isC D.1 (up (dA D) (nP D.1) c p) ∧ up (dT D) (nP D.1) v p ≤ 9 ∧ up (dK D) (nP D.1) 0 p < 2 ^ nT D.1
          unfold up
          by_cases z : p = nP D.1
          · rw [if_pos z, if_pos z, if_pos z]
            exact ⟨hc, hv1, Nat.pow_pos (by decide)⟩
          · rw [if_neg z, if_neg z, if_neg z]
            exact s3 p (by omega)
        · rcases hx with hx | hx
          · exact w1 x (Or.inl hx)
          · have hx2 : x ∈ plN D.1 ++ [w] := hx
            rcases List.mem_append.mp hx2 with z | z
            · exact w1 x (Or.inr z)
            · simp at z; rw [z]; exact hw
      refine ml_fin (D := (addN D.1 w, dH D, up (dA D) (nP D.1) c, up (dT D) (nP D.1) v, up (dK D) (nP D.1) 0)) (u := u) (((((hT5.b).a (by decide)).a (by decide)).a (by decide)).a (by decide)) ?_ hn (by omega) (hP.trans ((FT.p hF05).trans ((Pf.b (by omega)).trans ((Pf.a (by omega)).trans ((Pf.a (by omega)).trans ((Pf.a (by omega)).trans (Pf.a (by omega)))))))) (fun b' hf σ' hP' hT' hD' hu' => ho _ b' (by rw [hpt]; exact hf) σ' u hP' hT' hD' hu' hok) (fun q hf => hx q (by rw [hpt]; exact hf))
      obtain ⟨h1, h2, h3, h4, h5, h6, h7', h8⟩ := hD5
      refine ⟨h1, h2, ⟨?_, ?_, ?_⟩, ⟨fun k v hk => ?_, fun k v hk => ?_⟩, h5, fun p hp => ?_, h7', ⟨h8.1.eqv rfl rfl rfl, h8.2.1.eqv rfl rfl rfl, h8.2.2.eqv rfl rfl rfl⟩⟩
      · exact h3.1
      · rw [fA_sA, if_pos ⟨rfl, rfl⟩, hnp]
      · exact h3.2.2
      · show fB (sB σ5 41 (8 + nP D.1) (lI ↑(enc w))) 41 k = _
        have hk2 : (plT D.1)[k]? = some v := hk
        have hkl := (List.getElem?_eq_some_iff.mp hk2).1
        have hn5 := hd.1.2.2.2.1
        unfold nT at hn5
        rw [fB_sB, if_neg (by omega)]; exact h4.1 k v hk2
      · have hk2 : (plN D.1 ++ [w])[k]? = some v := hk
        show fB (sB σ5 41 (8 + nP D.1) (lI ↑(enc w))) 41 (8 + k) = _
        rw [fB_sB]
        rcases Nat.lt_or_ge k (nP D.1) with z | z
        · rw [List.getElem?_append_left z] at hk2
          rw [if_neg (by omega)]; exact h4.2 k v hk2
        · rw [List.getElem?_append_right z] at hk2
          have hz : k = nP D.1 := by
            have := (List.getElem?_eq_some_iff.mp hk2).1
            simp at this; unfold nP at z ⊢; omega
          subst hz
          unfold nP at hk2
          simp at hk2
          subst hk2
          rw [if_pos ⟨rfl, rfl⟩]
      · have hp2 : p < nP D.1 + 1 := by rw [← hnp]; exact hp
        show fA (sA (sA (sA σ5 43 (3 * nP D.1) (nI (c7 c))) 43 (3 * nP D.1 + 1) (nI v)) 43 (3 * nP D.1 + 2) (nI 0)) 43 (3 * p) = nI (c7 (up (dA D) (nP D.1) c p)) ∧ fA (sA (sA (sA σ5 43 (3 * nP D.1) (nI (c7 c))) 43 (3 * nP D.1 + 1) (nI v)) 43 (3 * nP D.1 + 2) (nI 0)) 43 (3 * p + 1) = nI (up (dT D) (nP D.1) v p) ∧ fA (sA (sA (sA σ5 43 (3 * nP D.1) (nI (c7 c))) 43 (3 * nP D.1 + 1) (nI v)) 43 (3 * nP D.1 + 2) (nI 0)) 43 (3 * p + 2) = nI (up (dK D) (nP D.1) 0 p)
        unfold up
        by_cases z : p = nP D.1
        · subst z
          rw [if_pos rfl, if_pos rfl, if_pos rfl]
          refine ⟨?_, ?_, ?_⟩
          · rw [fA_sA, if_neg (by omega), fA_sA, if_neg (by omega), fA_sA, if_pos ⟨rfl, rfl⟩]
          · rw [fA_sA, if_neg (by omega), fA_sA, if_pos ⟨rfl, rfl⟩]
          · rw [fA_sA, if_pos ⟨rfl, rfl⟩]
        · rw [if_neg z, if_neg z, if_neg z]
          obtain ⟨r1, r2, r3⟩ := h6 p (by omega)
          refine ⟨?_, ?_, ?_⟩
          · rw [fA_sA, if_neg (by omega), fA_sA, if_neg (by omega), fA_sA, if_neg (by omega)]; exact r1
          · rw [fA_sA, if_neg (by omega), fA_sA, if_neg (by omega), fA_sA, if_neg (by omega)]; exact r2
          · rw [fA_sA, if_neg (by omega), fA_sA, if_neg (by omega), fA_sA, if_neg (by omega)]; exact r3
    | succ m ih =>
      intro k hk hno
      have hkp : k < nP D.1 := by omega
      have hak := (hd.2.1.2.2.1 k hkp).1
      have hak' := isC_lt hd.1 hak
      have hak49 := c7_lt hd.1 hak
      refine hX _ _ _ _ ?_
      simp (disch := omega) only [i_0, i_1, i_2, i_3, i_4, i_5, i_6, i_7, i_8, i_9, i_10, i_11, i_12, i_13, i_16, i_19, i_20, i_21, i_22, i_23, i_24, i_25, i_30, i_31, i_32, i_39, i_40, i_41, i_42, i_43, i_44, i_45, i_47, i_48, i_49, i_50, i_51, i_52, i_57, i_59, i_60, i_61, i_62, i_63, i_64, i_71, i_72, i_80, i_91, i_93, i_97, i_99, i_100, i_122, i_227, i_228, i_232, i_251, i_255, i_256, i_463, i_999, i_1000, i_1519, i_1600, i_9999, i_100000000, i_2147483639, i_2147483647, neg_nI1, nI_add, pk_mul, nI_remL, pk_sub, pk_div, nI_clamp, nI_leI, nI_ltI, nI_eq, vpT, nI_m1, m1_nI, nI_lem1, m1_le, m1_lt, nI_ltm1, nI_bit, nI_shl, nI_xor, nI_or, n_rem, forall_eq, true_and, and_true, implies_true, true_implies, false_implies, not_true_eq_false, not_false_eq_true, Nat.zero_add, Nat.add_zero, ite_true, ite_false, if_true, if_false, true_or, or_true, false_or, or_false, and_self, and_false, false_and, Nat.reduceEqDiff, reduceIte]
      rw [hD3.2.2.1.2.1]
      simp (disch := omega) only [i_0, i_1, i_2, i_3, i_4, i_5, i_6, i_7, i_8, i_9, i_10, i_11, i_12, i_13, i_16, i_19, i_20, i_21, i_22, i_23, i_24, i_25, i_30, i_31, i_32, i_39, i_40, i_41, i_42, i_43, i_44, i_45, i_47, i_48, i_49, i_50, i_51, i_52, i_57, i_59, i_60, i_61, i_62, i_63, i_64, i_71, i_72, i_80, i_91, i_93, i_97, i_99, i_100, i_122, i_227, i_228, i_232, i_251, i_255, i_256, i_463, i_999, i_1000, i_1519, i_1600, i_9999, i_100000000, i_2147483639, i_2147483647, neg_nI1, nI_add, pk_mul, nI_remL, pk_sub, pk_div, nI_clamp, nI_leI, nI_ltI, nI_eq, vpT, nI_m1, m1_nI, nI_lem1, m1_le, m1_lt, nI_ltm1, nI_bit, nI_shl, nI_xor, nI_or, n_rem, forall_eq, true_and, and_true, implies_true, true_implies, false_implies, not_true_eq_false, not_false_eq_true, Nat.zero_add, Nat.add_zero, ite_true, ite_false, if_true, if_false, true_or, or_true, false_or, or_false, and_self, and_false, false_and, Nat.reduceEqDiff, reduceIte]
      refine ⟨fun z => by omega, fun _ => ⟨fun z => absurd hT3.2.2.2.1 z, fun _ => ?_⟩⟩
      rw [(hD3.2.2.2.2.2.1 k hkp).1]
      have hcd : c7 (dA D k) < 49 := hak49
      simp (disch := omega) only [i_0, i_1, i_2, i_3, i_4, i_5, i_6, i_7, i_8, i_9, i_10, i_11, i_12, i_13, i_16, i_19, i_20, i_21, i_22, i_23, i_24, i_25, i_30, i_31, i_32, i_39, i_40, i_41, i_42, i_43, i_44, i_45, i_47, i_48, i_49, i_50, i_51, i_52, i_57, i_59, i_60, i_61, i_62, i_63, i_64, i_71, i_72, i_80, i_91, i_93, i_97, i_99, i_100, i_122, i_227, i_228, i_232, i_251, i_255, i_256, i_463, i_999, i_1000, i_1519, i_1600, i_9999, i_100000000, i_2147483639, i_2147483647, neg_nI1, nI_add, pk_mul, nI_remL, pk_sub, pk_div, nI_clamp, nI_leI, nI_ltI, nI_eq, vpT, nI_m1, m1_nI, nI_lem1, m1_le, m1_lt, nI_ltm1, nI_bit, nI_shl, nI_xor, nI_or, n_rem, forall_eq, true_and, and_true, implies_true, true_implies, false_implies, not_true_eq_false, not_false_eq_true, Nat.zero_add, Nat.add_zero, ite_true, ite_false, if_true, if_false, true_or, or_true, false_or, or_false, and_self, and_false, false_and, Nat.reduceEqDiff, reduceIte]
      unfold mw_personTold_75
      refine ⟨fun z => ?_, fun z => ?_⟩
      · simp (disch := omega) only [i_0, i_1, i_2, i_3, i_4, i_5, i_6, i_7, i_8, i_9, i_10, i_11, i_12, i_13, i_16, i_19, i_20, i_21, i_22, i_23, i_24, i_25, i_30, i_31, i_32, i_39, i_40, i_41, i_42, i_43, i_44, i_45, i_47, i_48, i_49, i_50, i_51, i_52, i_57, i_59, i_60, i_61, i_62, i_63, i_64, i_71, i_72, i_80, i_91, i_93, i_97, i_99, i_100, i_122, i_227, i_228, i_232, i_251, i_255, i_256, i_463, i_999, i_1000, i_1519, i_1600, i_9999, i_100000000, i_2147483639, i_2147483647, neg_nI1, nI_add, pk_mul, nI_remL, pk_sub, pk_div, nI_clamp, nI_leI, nI_ltI, nI_eq, vpT, nI_m1, m1_nI, nI_lem1, m1_le, m1_lt, nI_ltm1, nI_bit, nI_shl, nI_xor, nI_or, n_rem, forall_eq, true_and, and_true, implies_true, true_implies, false_implies, not_true_eq_false, not_false_eq_true, Nat.zero_add, Nat.add_zero, ite_true, ite_false, if_true, if_false, true_or, or_true, false_or, or_false, and_self, and_false, false_and, Nat.reduceEqDiff, reduceIte]
        refine ih (k + 1) (by omega) (fun p hp => ?_)
        by_cases hpk : p = k
        · rw [hpk]; exact fun q => z (by rw [q])
        · exact hno p (by omega)
      · have hdc : dA D k = c := c7_inj hak'.1 hcm.1 z
        have htk : tkn D c = true := tkn_iff.mpr ⟨k, hkp, hdc⟩
        rw [if_pos htk] at hpt
        rw [h10]
        refine ml_fail (q := (2, f)) hT3.2.2.2.1 (by simp) (fun σ5 hF5 hB5 => ?_)
        simp (disch := omega) only [i_0, i_1, i_2, i_3, i_4, i_5, i_6, i_7, i_8, i_9, i_10, i_11, i_12, i_13, i_16, i_19, i_20, i_21, i_22, i_23, i_24, i_25, i_30, i_31, i_32, i_39, i_40, i_41, i_42, i_43, i_44, i_45, i_47, i_48, i_49, i_50, i_51, i_52, i_57, i_59, i_60, i_61, i_62, i_63, i_64, i_71, i_72, i_80, i_91, i_93, i_97, i_99, i_100, i_122, i_227, i_228, i_232, i_251, i_255, i_256, i_463, i_999, i_1000, i_1519, i_1600, i_9999, i_100000000, i_2147483639, i_2147483647, neg_nI1, nI_add, pk_mul, nI_remL, pk_sub, pk_div, nI_clamp, nI_leI, nI_ltI, nI_eq, vpT, nI_m1, m1_nI, nI_lem1, m1_le, m1_lt, nI_ltm1, nI_bit, nI_shl, nI_xor, nI_or, n_rem, forall_eq, true_and, and_true, implies_true, true_implies, false_implies, not_true_eq_false, not_false_eq_true, Nat.zero_add, Nat.add_zero, ite_true, ite_false, if_true, if_false, true_or, or_true, false_or, or_false, and_self, and_false, false_and, Nat.reduceEqDiff, reduceIte]
        exact bad34 _ hpt σ5 (hF03.trans (hF5.wide (by decide) (by decide) (by decide))) hB5 _ _ (k + 1) (by omega) X hX
  exact key (nP D.1) 0 (by omega) (fun p hp => by omega)
