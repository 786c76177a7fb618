/-! THE REFERENCE: the kinds of statements -/
theorem Tok.fm {ks as bs : List Nat} {σ σ' : FS} {t : Nat → Nat} {e a : Nat} (h : Tok σ t e a) (f : Fm ks as bs σ σ') (hk : ∀ k ∈ ([2, 3, 4, 5, 6] : List Nat), k ∉ ks) (ha : ∀ a ∈ as, a ≠ 0 ∧ ¬ ((11 ≤ a ∧ a ≤ 37) ∨ (79 ≤ a ∧ a ≤ 101))) : Tok σ' t e a :=
  ⟨h.1.fm f (hk 3 (by decide)) ha, by rw [f.1 2 (hk 2 (by decide))]; exact h.2.1, h.2.2.1, by rw [f.1 5 (hk 5 (by decide))]; exact h.2.2.2.1, h.2.2.2.2.eqv (f.1 4 (hk 4 (by decide))) (f.1 6 (hk 6 (by decide)))⟩
theorem Pf.a {σ : FS} {a k : Nat} {v : Int32} (h : a = 42 ∨ a = 43 ∨ (a = 39 ∧ k < 3) ∨ (a = 40 ∧ k < 3) ∨ (a = 45 ∧ k < 3) ∨ (a = 46 ∧ k < 3) ∨ (a = 44 ∧ k < 24) ∨ (a = 47 ∧ k < 1600)) : Pf σ (sA σ a k v) := by
  refine ⟨Fm.sA σ _ _ (by rcases h with z | z | z | z | z | z | z | z <;> (try rw [z]) <;> (try rw [z.1]) <;> decide), fun i hi => ⟨?_, ?_, ?_, ?_⟩, fun i hi => ?_, fun i hi => ?_, fun i hi => rfl⟩
  all_goals (rw [fA_sA, if_neg (by omega)])
theorem Pf.b {σ : FS} {k : Nat} {v : Int64} (h : k < 16) : Pf σ (sB σ 41 k v) := by
  refine ⟨Fm.sB σ _ _ (by decide), fun i hi => ⟨rfl, rfl, rfl, rfl⟩, fun i hi => rfl, fun i hi => rfl, fun i hi => ?_⟩
  rw [fB_sB, if_neg (by omega)]
theorem Tok.a {σ : FS} {t : Nat → Nat} {e b a k : Nat} {v : Int32} (h : Tok σ t e b) (ha : 39 ≤ a ∧ a ≤ 47) : Tok (sA σ a k v) t e b := h.fm (Fm.sA (ks := []) (as := [a]) (bs := []) σ k v (by simp)) (by simp) (by simp; omega)
theorem Tok.b {σ : FS} {t : Nat → Nat} {e b k : Nat} {v : Int64} (h : Tok σ t e b) : Tok (sB σ 41 k v) t e b := h.fm (Fm.sB (ks := []) (as := []) (bs := [41]) σ k v (by simp)) (by simp) (by simp)
theorem ml_high {σ0 σ : FS} {t : Nat → Nat} {e a n u : Nat} {D : Dr} {Q : FS → Prop} (h : Tok σ t e a) (hD : Dm σ D n u) (hd : drOK D) (hn : n < 80) (hu : u ≤ a) (hP : Pf σ0 σ)
    (ho : ∀ D' b, pHigh D t e a = .inl (D', b) → ∀ σ' u', Pf σ0 σ' → Tok σ' t e b → Dm σ' D' (n + 1) u' → u' ≤ b → drOK D' → Q σ') (hx : ∀ q, pHigh D t e a = .inr q → ∀ σ', Pf σ0 σ' → Bd σ' q → Q σ') : mw_highTold σ (fun σ28 => mw_statementTold_195 σ28 Q) := by
  unfold mw_highTold
  refine ml_cell h hD.2.1.1 hD.2.1.2.1 hd.1.1 hd.1.2.1 (fun c f b hp hc σ1 hF1 hT1 h10 => ?_) (fun q hp σ1 r hF1 hB1 => ml_numberB hB1 ⟨fun _ => ml_finB hB1 (hP.trans (FT.p hF1)) (fun σ' hP' hB' => hx q (by unfold pHigh; rw [hp]; rfl) σ' hP' hB'), fun z => absurd z hB1.ne⟩)
  refine ml_number (lo := 0) (hi := 99) hT1 (by decide) (by decide) (fun v b2 f2 σ2 hp2 hF2 hT2 h102 hv1 hv2 => ?_) (fun q r σ2 hp2 hF2 hB2 => ⟨fun _ => ml_finB hB2 (hP.trans (FT.p (hF1.trans hF2))) (fun σ' hP' hB' => hx q (by unfold pHigh; rw [hp, pB_inl]; simp only; rw [hp2]; rfl) σ' hP' hB'), fun z => absurd z hB2.ne⟩)
  refine ⟨fun z => absurd hT2.2.2.2.1 z, fun _ => ?_⟩
  have hc49 := c7_lt hd.1 hc
  have hcm := isC_lt hd.1 hc
  have hab := pNum_ok hT1.2.2.1 hp2
  simp (disch := omega) only [i_0, i_1, i_2, i_3, i_4, i_5, i_6, i_7, i_8, i_9, i_10, i_11, i_12, i_13, i_16, i_19, i_20, i_21, i_22, i_23, i_24, i_25, i_30, i_31, i_32, i_39, i_40, i_41, i_42, i_43, i_44, i_45, i_47, i_48, i_49, i_50, i_51, i_52, i_57, i_59, i_60, i_61, i_62, i_63, i_64, i_71, i_72, i_80, i_91, i_93, i_97, i_99, i_100, i_122, i_227, i_228, i_232, i_251, i_255, i_256, i_463, i_999, i_1000, i_1519, i_1600, i_9999, i_100000000, i_2147483639, i_2147483647, neg_nI1, nI_add, pk_mul, nI_remL, pk_sub, pk_div, nI_clamp, nI_leI, nI_ltI, nI_eq, vpT, nI_m1, m1_nI, nI_lem1, m1_le, m1_lt, nI_ltm1, nI_bit, nI_shl, nI_xor, nI_or, n_rem, forall_eq, true_and, and_true, implies_true, true_implies, false_implies, not_true_eq_false, not_false_eq_true, Nat.zero_add, Nat.add_zero, ite_true, ite_false, if_true, if_false, true_or, or_true, false_or, or_false, and_self, and_false, false_and, Nat.reduceEqDiff, reduceIte]
  have hph : pHigh D t e a = pFin (D.1, up (dH D) c v, D.2.2) t e b2 := by unfold pHigh; rw [hp, pB_inl]; simp only; rw [hp2]; rfl
  have hD2 := hD.t (hF1.trans hF2)
  have hab1 : a ≤ b := by
    unfold pCell at hp
    obtain ⟨x, b1, q1, q2⟩ := pB_ok hp
    obtain ⟨y, b3, q3, q4⟩ := pB_ok q2
    have r1 := pNum_ok h.2.2.1 q1
    have r2 := pNum_ok r1.2.2.1 q3
    cases q4
    omega
  have hok : drOK (D.1, up (dH D) c v, D.2.2) := by
    refine ⟨hd.1, ⟨hd.2.1.1, fun d hdc => ?_, hd.2.1.2.2.1, hd.2.1.2.2.2⟩, hd.2.2⟩
    show up (dH D) c v d ≤ 99
    unfold up
    split
    · exact hv1
    · exact hd.2.1.2.1 d hdc
  have hDm : Dm (sA σ2 42 (c7 c) (nI v)) (D.1, up (dH D) c v, D.2.2) n u := by
    obtain ⟨h1, h2, h3, h4, h5, h6, h7, h8⟩ := hD2
    refine ⟨h1, h2, h3, h4, fun d hdc => ?_, ?_, h7, ⟨h8.1.eqv rfl rfl rfl, h8.2.1.eqv rfl rfl rfl, h8.2.2.eqv rfl rfl rfl⟩⟩
    · rw [fA_sA]
      show _ = nI (up (dH D) c v d)
      unfold up
      have hdm := isC_lt hd.1 hdc
      by_cases z : d = c
      · rw [z, if_pos ⟨rfl, rfl⟩, if_pos rfl]
      · rw [if_neg (fun q => z (c7_inj hdm.1 hcm.1 q.2)), if_neg z]; exact h5 d hdc
    · exact h6
  refine ml_fin (hT2.a (by decide)) hDm hn (by omega) (hP.trans ((FT.p (hF1.trans hF2)).trans (Pf.a (Or.inl rfl)))) (fun b' hf σ' hP' hT' hD' hu' => ho _ b' (by rw [hph]; exact hf) σ' u hP' hT' hD' hu' hok) (fun q hf => hx q (by rw [hph]; exact hf))
theorem ml_isFull {σ : FS} {t : Nat → Nat} {e a i m pl k : Nat} {Q : Int32 → FS → Prop} (h : Tok σ t e a) (hi : i < 3) (hk : fA σ 40 i = nI k) (hk2 : k < 100) (hm : m < 100) (hn : k ≠ m → Q (nI 0) σ) (hy : k = m → ∀ σ', FT σ σ' → Bd σ' (5, pl) → Q (nI 1) σ') : mw_isFull (nI i) (nI m) (nI pl) σ Q := by
  unfold mw_isFull mw_isFull_23
  refine ⟨fun z => absurd h.2.2.2.1 z, fun _ => ?_⟩
  simp (disch := omega) only [i_0, i_1, i_2, i_3, i_4, i_5, i_6, i_7, i_8, i_9, i_10, i_11, i_12, i_13, i_16, i_19, i_20, i_21, i_22, i_23, i_24, i_25, i_30, i_31, i_32, i_39, i_40, i_41, i_42, i_43, i_44, i_45, i_47, i_48, i_49, i_50, i_51, i_52, i_57, i_59, i_60, i_61, i_62, i_63, i_64, i_71, i_72, i_80, i_91, i_93, i_97, i_99, i_100, i_122, i_227, i_228, i_232, i_251, i_255, i_256, i_463, i_999, i_1000, i_1519, i_1600, i_9999, i_100000000, i_2147483639, i_2147483647, neg_nI1, nI_add, pk_mul, nI_remL, pk_sub, pk_div, nI_clamp, nI_leI, nI_ltI, nI_eq, vpT, nI_m1, m1_nI, nI_lem1, m1_le, m1_lt, nI_ltm1, nI_bit, nI_shl, nI_xor, nI_or, n_rem, forall_eq, true_and, and_true, implies_true, true_implies, false_implies, not_true_eq_false, not_false_eq_true, Nat.zero_add, Nat.add_zero, ite_true, ite_false, if_true, if_false, true_or, or_true, false_or, or_false, and_self, and_false, false_and, Nat.reduceEqDiff, reduceIte]
  rw [hk]
  simp (disch := omega) only [i_0, i_1, i_2, i_3, i_4, i_5, i_6, i_7, i_8, i_9, i_10, i_11, i_12, i_13, i_16, i_19, i_20, i_21, i_22, i_23, i_24, i_25, i_30, i_31, i_32, i_39, i_40, i_41, i_42, i_43, i_44, i_45, i_47, i_48, i_49, i_50, i_51, i_52, i_57, i_59, i_60, i_61, i_62, i_63, i_64, i_71, i_72, i_80, i_91, i_93, i_97, i_99, i_100, i_122, i_227, i_228, i_232, i_251, i_255, i_256, i_463, i_999, i_1000, i_1519, i_1600, i_9999, i_100000000, i_2147483639, i_2147483647, neg_nI1, nI_add, pk_mul, nI_remL, pk_sub, pk_div, nI_clamp, nI_leI, nI_ltI, nI_eq, vpT, nI_m1, m1_nI, nI_lem1, m1_le, m1_lt, nI_ltm1, nI_bit, nI_shl, nI_xor, nI_or, n_rem, forall_eq, true_and, and_true, implies_true, true_implies, false_implies, not_true_eq_false, not_false_eq_true, Nat.zero_add, Nat.add_zero, ite_true, ite_false, if_true, if_false, true_or, or_true, false_or, or_false, and_self, and_false, false_and, Nat.reduceEqDiff, reduceIte]
  refine ⟨fun z => ⟨fun _ => hn z, fun z => absurd h.2.2.2.1 z⟩, fun z => ml_fail (q := (5, pl)) h.2.2.2.1 (by simp) (fun σ1 hF1 hB1 => ⟨fun z => absurd z hB1.ne, fun _ => hy z σ1 (hF1.wide (by decide) (by decide) (by decide)) hB1⟩)⟩
theorem pNew_ok {P : Pl} {t : Nat → Nat} {e a b : Nat} {w : List Nat} (ha : a ≤ e) (h : pNew P t e a = .inl (w, b)) : a < b ∧ b ≤ e ∧ w ∉ plT P ∧ w ∉ plN P := by
  unfold pNew pName at h
  obtain ⟨q, b1, h1, h2⟩ := pB_ok h
  obtain ⟨q2, b2, h3, h4⟩ := pB_ok h1
  have r := pWord_ok ha h3
  split at h4
  · cases h4
  · split at h4
    · cases h4
    · cases h4
      split at h2
      · cases h2
      · rename_i z
        cases h2
        exact ⟨by omega, by omega, fun q => z (Or.inl q), fun q => z (Or.inr q)⟩
theorem ml_topic {σ0 σ : FS} {t : Nat → Nat} {e a n u pl : Nat} {D : Dr} {Q : FS → Prop} (h : Tok σ t e a) (hD : Dm σ D n u) (hd : drOK D) (hn : n < 80) (hu : u ≤ a) (hP : Pf σ0 σ)
    (ho : ∀ D' b, pTopic D pl t e a = .inl (D', b) → ∀ σ' u', Pf σ0 σ' → Tok σ' t e b → Dm σ' D' (n + 1) u' → u' ≤ b → drOK D' → Q σ') (hx : ∀ q, pTopic D pl t e a = .inr q → ∀ σ', Pf σ0 σ' → Bd σ' q → Q σ') : mw_topicTold (nI pl) σ (fun σ28 => mw_statementTold_195 σ28 Q) := by
  have h5 := hd.1.2.2.2.1
  unfold mw_topicTold
  refine ml_isFull (i := 0) (m := 5) h (by decide) hD.2.2.1.1 (by omega) (by decide) (fun hne => ⟨fun _ => ?_, fun z => absurd rfl z⟩) (fun heq σ1 hF1 hB1 => ⟨fun z => absurd z (by decide), fun _ => ml_finB hB1 (hP.trans (FT.p hF1)) (fun σ' hP' hB' => hx _ (by unfold pTopic; rw [if_pos heq]) σ' hP' hB')⟩)
  have hpt : pTopic D pl t e a = pB (pNew D.1 t e a) (fun w b => pFin (addT D.1 w, D.2) t e b) := by unfold pTopic; rw [if_neg hne]
  refine ml_newName h (hD.nt hd) (hD.nn hd) (fun w b hp hw σ1 hF1 hT1 => ?_) (fun q hp σ1 r hF1 hB1 => ⟨fun z => absurd z hB1.ne, fun _ => ml_finB hB1 (hP.trans (FT.p hF1)) (fun σ' hP' hB' => hx _ (by rw [hpt, hp]; rfl) σ' hP' hB')⟩)
  refine ⟨fun _ => ?_, fun z => absurd hT1.2.2.2.1 z⟩
  rw [hp, pB_inl] at hpt
  have hD1 := hD.t hF1
  have hnw := pNew_ok h.2.2.1 hp
  simp (disch := omega) only [i_0, i_1, i_2, i_3, i_4, i_5, i_6, i_7, i_8, i_9, i_10, i_11, i_12, i_13, i_16, i_19, i_20, i_21, i_22, i_23, i_24, i_25, i_30, i_31, i_32, i_39, i_40, i_41, i_42, i_43, i_44, i_45, i_47, i_48, i_49, i_50, i_51, i_52, i_57, i_59, i_60, i_61, i_62, i_63, i_64, i_71, i_72, i_80, i_91, i_93, i_97, i_99, i_100, i_122, i_227, i_228, i_232, i_251, i_255, i_256, i_463, i_999, i_1000, i_1519, i_1600, i_9999, i_100000000, i_2147483639, i_2147483647, neg_nI1, nI_add, pk_mul, nI_remL, pk_sub, pk_div, nI_clamp, nI_leI, nI_ltI, nI_eq, vpT, nI_m1, m1_nI, nI_lem1, m1_le, m1_lt, nI_ltm1, nI_bit, nI_shl, nI_xor, nI_or, n_rem, forall_eq, true_and, and_true, implies_true, true_implies, false_implies, not_true_eq_false, not_false_eq_true, Nat.zero_add, Nat.add_zero, ite_true, ite_false, if_true, if_false, true_or, or_true, false_or, or_false, and_self, and_false, false_and, Nat.reduceEqDiff, reduceIte]
  rw [hD1.2.2.1.1]
  simp (disch := omega) only [i_0, i_1, i_2, i_3, i_4, i_5, i_6, i_7, i_8, i_9, i_10, i_11, i_12, i_13, i_16, i_19, i_20, i_21, i_22, i_23, i_24, i_25, i_30, i_31, i_32, i_39, i_40, i_41, i_42, i_43, i_44, i_45, i_47, i_48, i_49, i_50, i_51, i_52, i_57, i_59, i_60, i_61, i_62, i_63, i_64, i_71, i_72, i_80, i_91, i_93, i_97, i_99, i_100, i_122, i_227, i_228, i_232, i_251, i_255, i_256, i_463, i_999, i_1000, i_1519, i_1600, i_9999, i_100000000, i_2147483639, i_2147483647, neg_nI1, nI_add, pk_mul, nI_remL, pk_sub, pk_div, nI_clamp, nI_leI, nI_ltI, nI_eq, vpT, nI_m1, m1_nI, nI_lem1, m1_le, m1_lt, nI_ltm1, nI_bit, nI_shl, nI_xor, nI_or, n_rem, forall_eq, true_and, and_true, implies_true, true_implies, false_implies, not_true_eq_false, not_false_eq_true, Nat.zero_add, Nat.add_zero, ite_true, ite_false, if_true, if_false, true_or, or_true, false_or, or_false, and_self, and_false, false_and, Nat.reduceEqDiff, reduceIte]
  rw [show fA (sB σ1 41 (nT D.1) (lI ↑(enc w))) 40 0 = nI (nT D.1) from hD1.2.2.1.1, nI_add]
  have hnt : nT (addT D.1 w) = nT D.1 + 1 := by unfold nT addT plT; simp
  have hnp : nP (addT D.1 w) = nP D.1 := rfl
  have hok : drOK (addT D.1 w, D.2) := by
    obtain ⟨⟨g1, g2, g3, g4, g5, g6, g7, g8, g9, g10⟩, ⟨s1, s2, s3, s4⟩, w1⟩ := hd
    refine ⟨⟨g1, g2, g3, by rw [hnt]; omega, g5, g6, fun q hq => ?_, g8, g9, g10⟩, ⟨s1, s2, fun p hp => ?_, s4⟩, fun v hv => ?_⟩
    · have := g7 q hq
      exact ⟨this.1, by rw [hnt]; omega⟩
    · obtain ⟨r1, r2, r3⟩ := s3 p hp
      refine ⟨r1, r2, ?_⟩
      rw [hnt]
      exact Nat.lt_of_lt_of_le r3 (Nat.pow_le_pow_right (by decide) (by omega))
    · rcases hv with hv | hv
      · have hv2 : v ∈ plT D.1 ++ [w] := hv
        rcases List.mem_append.mp hv2 with z | z
        · exact w1 v (Or.inl z)
        · simp at z; rw [z]; exact hw
      · exact w1 v (Or.inr hv)
  have hDm : Dm (sA (sB σ1 41 (nT D.1) (lI ↑(enc w))) 40 0 (nI (nT D.1 + 1))) (addT D.1 w, D.2) n u := by
    obtain ⟨h1, h2, h3, h4, h5, h6, h7, h8⟩ := hD1
    refine ⟨h1, h2, ⟨?_, ?_, ?_⟩, ⟨fun k v hk => ?_, fun k v hk => ?_⟩, h5, h6, h7, ⟨h8.1.eqv rfl rfl rfl, h8.2.1.eqv rfl rfl rfl, h8.2.2.eqv rfl rfl rfl⟩⟩
    · rw [fA_sA, if_pos ⟨rfl, rfl⟩, hnt]
    · rw [fA_sA, if_neg (by decide)]; exact h3.2.1
    · rw [fA_sA, if_neg (by decide)]; exact h3.2.2
    · have hk2 : (plT D.1 ++ [w])[k]? = some v := hk
      rw [fB_sA, fB_sB]
      rcases Nat.lt_or_ge k (nT D.1) with z | z
      · rw [List.getElem?_append_left z] at hk2
        rw [if_neg (by omega)]; exact h4.1 k v hk2
      · rw [List.getElem?_append_right z] at hk2
        have hz : k = nT D.1 := by
          have := (List.getElem?_eq_some_iff.mp hk2).1
          simp at this; unfold nT at z ⊢; omega
        subst hz
        unfold nT at hk2
        simp at hk2
        subst hk2
        rw [if_pos ⟨rfl, rfl⟩]
    · rw [fB_sA, fB_sB, if_neg (by omega)]; exact h4.2 k v hk
  refine ml_fin (hT1.b.a (by decide)) hDm hn (by omega) (hP.trans ((FT.p hF1).trans ((Pf.b (by omega)).trans (Pf.a (by omega))))) (fun b' hf σ' hP' hT' hD' hu' => ho _ b' (by rw [hpt]; exact hf) σ' u hP' hT' hD' hu' hok) (fun q hf => hx q (by rw [hpt]; exact hf))
