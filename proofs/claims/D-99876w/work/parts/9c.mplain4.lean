/-! THE REFERENCE: plain, whole -/
theorem Pf.px {σ σ' : FS} (h : Pf σ σ') : Px σ σ' := h.2
theorem ma_plain {σ : FS} {Z : Wd} {Q : Int32 → FS → Prop} (h : mAll σ Z) (hQ : ∀ σ', mAll σ' (opPlain Z).2 → Q (opPlain Z).1 σ') : mw_plain σ Q := by
  have he : wTn Z ≤ 1600 := h.1.2.2.2.1
  unfold mw_plain
  simp (disch := omega) only [i_0, i_1, i_2, i_3, i_4, i_5, i_6, i_7, i_8, i_9, i_10, i_11, i_12, i_13, i_16, i_19, i_20, i_21, i_22, i_23, i_24, i_25, i_30, i_31, i_32, i_39, i_40, i_41, i_42, i_43, i_44, i_45, i_47, i_48, i_49, i_50, i_51, i_52, i_57, i_59, i_60, i_61, i_62, i_63, i_64, i_71, i_72, i_80, i_91, i_93, i_97, i_99, i_100, i_122, i_227, i_228, i_232, i_251, i_255, i_256, i_463, i_999, i_1000, i_1519, i_1600, i_9999, i_100000000, i_2147483639, i_2147483647, neg_nI1, nI_add, pk_mul, nI_remL, pk_sub, pk_div, nI_clamp, nI_leI, nI_ltI, nI_eq, vpT, nI_m1, m1_nI, nI_lem1, m1_le, m1_lt, nI_ltm1, nI_bit, nI_shl, nI_xor, nI_or, n_rem, forall_eq, true_and, and_true, implies_true, true_implies, false_implies, not_true_eq_false, not_false_eq_true, Nat.zero_add, Nat.add_zero, ite_true, ite_false, if_true, if_false, true_or, or_true, false_or, or_false, and_self, and_false, false_and, Nat.reduceEqDiff, reduceIte]
  have f0 : Fm [1, 2, 3, 4, 5, 6, 48] [39] [] σ (sA (sI (sI (sI (sI (sI (sI (sI σ 0 3 (fI σ 0 1)) 0 1 (nI 0)) 0 2 (nI 0)) 0 4 M1) 0 5 (nI 0)) 0 6 M1) 0 48 (nI 0)) 39 2 (nI 0)) :=
    (Fm.sI σ _ (by decide)).trans ((Fm.sI _ _ (by decide)).trans ((Fm.sI _ _ (by decide)).trans ((Fm.sI _ _ (by decide)).trans ((Fm.sI _ _ (by decide)).trans ((Fm.sI _ _ (by decide)).trans ((Fm.sI _ _ (by decide)).trans (Fm.sA _ _ _ (by decide))))))))
  have v3 : fI (sA (sI (sI (sI (sI (sI (sI (sI σ 0 3 (fI σ 0 1)) 0 1 (nI 0)) 0 2 (nI 0)) 0 4 M1) 0 5 (nI 0)) 0 6 M1) 0 48 (nI 0)) 39 2 (nI 0)) 0 3 = nI (wTn Z) := by simp [fI_sA, fI_sI]; exact h.2.1.1
  have v1 : fI (sA (sI (sI (sI (sI (sI (sI (sI σ 0 3 (fI σ 0 1)) 0 1 (nI 0)) 0 2 (nI 0)) 0 4 M1) 0 5 (nI 0)) 0 6 M1) 0 48 (nI 0)) 39 2 (nI 0)) 0 1 = nI 0 := by simp [fI_sA, fI_sI]
  have v2 : fI (sA (sI (sI (sI (sI (sI (sI (sI σ 0 3 (fI σ 0 1)) 0 1 (nI 0)) 0 2 (nI 0)) 0 4 M1) 0 5 (nI 0)) 0 6 M1) 0 48 (nI 0)) 39 2 (nI 0)) 0 2 = nI 0 := by simp [fI_sA, fI_sI]
  have v4 : fI (sA (sI (sI (sI (sI (sI (sI (sI σ 0 3 (fI σ 0 1)) 0 1 (nI 0)) 0 2 (nI 0)) 0 4 M1) 0 5 (nI 0)) 0 6 M1) 0 48 (nI 0)) 39 2 (nI 0)) 0 4 = M1 := by simp [fI_sA, fI_sI]
  have v5 : fI (sA (sI (sI (sI (sI (sI (sI (sI σ 0 3 (fI σ 0 1)) 0 1 (nI 0)) 0 2 (nI 0)) 0 4 M1) 0 5 (nI 0)) 0 6 M1) 0 48 (nI 0)) 39 2 (nI 0)) 0 5 = nI 0 := by simp [fI_sA, fI_sI]
  have v6 : fI (sA (sI (sI (sI (sI (sI (sI (sI σ 0 3 (fI σ 0 1)) 0 1 (nI 0)) 0 2 (nI 0)) 0 4 M1) 0 5 (nI 0)) 0 6 M1) 0 48 (nI 0)) 39 2 (nI 0)) 0 6 = M1 := by simp [fI_sA, fI_sI]
  have v48 : fI (sA (sI (sI (sI (sI (sI (sI (sI σ 0 3 (fI σ 0 1)) 0 1 (nI 0)) 0 2 (nI 0)) 0 4 M1) 0 5 (nI 0)) 0 6 M1) 0 48 (nI 0)) 39 2 (nI 0)) 0 48 = nI 0 := by simp [fI_sA, fI_sI]
  have v39 : fA (sA (sI (sI (sI (sI (sI (sI (sI σ 0 3 (fI σ 0 1)) 0 1 (nI 0)) 0 2 (nI 0)) 0 4 M1) 0 5 (nI 0)) 0 6 M1) 0 48 (nI 0)) 39 2 (nI 0)) 39 2 = nI 0 := by rw [fA_sA, if_pos ⟨rfl, rfl⟩]
  have x39 : ∀ i, 3 ≤ i → fA (sA (sI (sI (sI (sI (sI (sI (sI σ 0 3 (fI σ 0 1)) 0 1 (nI 0)) 0 2 (nI 0)) 0 4 M1) 0 5 (nI 0)) 0 6 M1) 0 48 (nI 0)) 39 2 (nI 0)) 39 i = fA σ 39 i := fun i hi => by rw [fA_sA, if_neg (by omega)]; rfl
  revert f0 v3 v1 v2 v4 v5 v6 v48 v39 x39
  generalize sA (sI (sI (sI (sI (sI (sI (sI σ 0 3 (fI σ 0 1)) 0 1 (nI 0)) 0 2 (nI 0)) 0 4 M1) 0 5 (nI 0)) 0 6 M1) 0 48 (nI 0)) 39 2 (nI 0) = σ1
  intro f0 v3 v1 v2 v4 v5 v6 v48 v39 x39
  refine ml_p47 (fun σ2 f2 c40 c45 => ml_p74 (fun σ3 f3 c42 => ?_))
  have F3 : Fm [1, 2, 3, 4, 5, 6, 48] [39, 40, 42, 45] [] σ σ3 := (f0.wide (by decide) (by decide) (by simp)).trans ((f2.wide (by simp) (by decide) (by simp)).trans (f3.wide (by simp) (by decide) (by simp)))
  have F13 : Fm [] [40, 42, 45] [] σ1 σ3 := (f2.wide (by simp) (by decide) (by simp)).trans (f3.wide (by simp) (by decide) (by simp))
  have X3 : Px σ σ3 := by
    refine ⟨fun i hi => ⟨?_, ?_, ?_, ?_⟩, fun i hi => ?_, fun i hi => ?_, fun i hi => ?_⟩
    · rw [F13.2.1 39 (by decide)]; exact x39 i hi
    · rw [f3.2.1 40 (by decide), c40, if_neg (by omega), f0.2.1 40 (by decide)]
    · rw [f3.2.1 45 (by decide), c45, if_neg (by omega), f0.2.1 45 (by decide)]
    · rw [F3.2.1 46 (by decide)]
    · rw [F3.2.1 44 (by decide)]
    · rw [F3.2.1 47 (by decide)]
    · rw [F3.2.2.1 41 (by simp)]
  have w1 : fI σ3 0 1 = nI 0 := by rw [F13.1 1 (by simp)]; exact v1
  have w48 : fI σ3 0 48 = nI 0 := by rw [F13.1 48 (by simp)]; exact v48
  have hws : mWs σ3 := h.2.2.2.2.2.2.2.2.2.2.2.2.2.fm (fun a z => F3.2.1 a (fun q => by
      have : (39 ≤ a ∧ a ≤ 45) := by
        simp only [List.mem_cons, List.not_mem_nil, or_false] at q; omega
      omega))
  have hT3 : Tok σ3 (wTp Z) (wTn Z) 0 := by
    refine ⟨⟨by rw [F13.1 3 (by simp)]; exact v3, he, ?_, h.1.2.2.2.2.1, hws⟩, by rw [F13.1 2 (by simp)]; exact v2, Nat.zero_le _, by rw [F13.1 5 (by simp)]; exact v5, ⟨Or.inl (by rw [F13.1 4 (by simp)]; exact v4), by rw [F13.1 6 (by simp)]; exact v6⟩, ?_⟩
    · rw [F3.2.1 0 (by decide)]; exact h.2.1.2
    · rw [F13.1 4 (by simp), v4]
      exact ⟨fun z => absurd z (by decide), fun z => by simp [prt] at z⟩
  -- the ends
  have bad : ∀ q, pPlain (wTp Z) (wTn Z) = .inr q → ∀ σ', Pf σ3 σ' → Bd σ' q → mw_plain_125 σ' Q := by
    intro q hp σ' hP hB
    have hop : opPlain Z = (M1, putRf ((wTp Z, 0), (nI q.1, nI q.2), Z.2.2) 1) := by unfold opPlain; rw [hp]
    rw [hop] at hQ
    have hq1 := hB.2.2.1
    have hq2 := hB.2.2.2
    unfold mw_plain_125
    simp only [forall_eq]
    rw [show fI (sI σ' 0 7 (fI σ' 0 5)) 0 6 = nI q.2 by rw [fI_sI, if_neg (by decide)]; exact hB.2.1]
    rw [hB.1]
    rw [show fI (sI (sI σ' 0 7 (nI q.1)) 0 8 (nI q.2)) 0 5 = nI q.1 by rw [fI_sI, if_neg (by decide), fI_sI, if_neg (by decide)]; exact hB.1]
    refine ⟨fun z => absurd z (by rw [← hB.1]; exact hB.ne), fun _ => ?_⟩
    simp (disch := omega) only [i_0, i_1, i_2, i_3, i_4, i_5, i_6, i_7, i_8, i_9, i_10, i_11, i_12, i_13, i_16, i_19, i_20, i_21, i_22, i_23, i_24, i_25, i_30, i_31, i_32, i_39, i_40, i_41, i_42, i_43, i_44, i_45, i_47, i_48, i_49, i_50, i_51, i_52, i_57, i_59, i_60, i_61, i_62, i_63, i_64, i_71, i_72, i_80, i_91, i_93, i_97, i_99, i_100, i_122, i_227, i_228, i_232, i_251, i_255, i_256, i_463, i_999, i_1000, i_1519, i_1600, i_9999, i_100000000, i_2147483639, i_2147483647, neg_nI1, nI_add, pk_mul, nI_remL, pk_sub, pk_div, nI_clamp, nI_leI, nI_ltI, nI_eq, vpT, nI_m1, m1_nI, nI_lem1, m1_le, m1_lt, nI_ltm1, nI_bit, nI_shl, nI_xor, nI_or, n_rem, forall_eq, true_and, and_true, implies_true, true_implies, false_implies, not_true_eq_false, not_false_eq_true, Nat.zero_add, Nat.add_zero, ite_true, ite_false, if_true, if_false, true_or, or_true, false_or, or_false, and_self, and_false, false_and, Nat.reduceEqDiff, reduceIte]
    have G : Fm kG aG [41] σ (sA (sI (sI σ' 0 7 (nI q.1)) 0 8 (nI q.2)) 9 1 (fA (sI (sI σ' 0 7 (nI q.1)) 0 8 (nI q.2)) 9 1 + nI 1)) := (F3.wide (by decide) (by decide) (by simp)).trans ((hP.1.wide (by decide) (by decide) (by simp)).trans ((Fm.sI _ _ (by decide)).trans ((Fm.sI _ _ (by decide)).trans (Fm.sA _ _ _ (by decide)))))
    have e9 : ∀ i, fA σ' 9 i = fA σ 9 i := fun i => by rw [hP.1.2.1 9 (by decide), F3.2.1 9 (by decide)]
    refine hQ _ (mAll.px h G (X3.trans (hP.px.trans ⟨fun i hi => ⟨?_, ?_, ?_, ?_⟩, fun i hi => ?_, fun i hi => ?_, fun i hi => rfl⟩)) ?_ ?_ ?_ (fun i hi => ?_))
    · rw [fA_sA, if_neg (by omega)]; rfl
    · rw [fA_sA, if_neg (by omega)]; rfl
    · rw [fA_sA, if_neg (by omega)]; rfl
    · rw [fA_sA, if_neg (by omega)]; rfl
    · rw [fA_sA, if_neg (by omega)]; rfl
    · rw [fA_sA, if_neg (by omega)]; rfl
    · rw [fI_sA, fI_sI, if_neg (by decide), fI_sI, if_neg (by decide), hP.1.1 1 (by decide)]; exact w1
    · rw [fI_sA, fI_sI, if_neg (by decide), fI_sI, if_pos ⟨rfl, rfl⟩]
    · rw [fI_sA, fI_sI, if_pos ⟨rfl, rfl⟩]
    · have h9 := h.2.2.2.1
      rw [fA_sA]
      by_cases z : i = 1
      · rw [if_pos ⟨rfl, z⟩, if_pos z, z]
        show fA σ' 9 1 + nI 1 = wRf Z 1 + 1
        rw [e9, h9 1 (by decide)]; rfl
      · rw [if_neg (fun q => z q.2), if_neg z]
        show fA σ' 9 i = wRf Z i
        rw [e9, h9 i hi]
  have good : ∀ D n u, (∃ b, pPlain (wTp Z) (wTn Z) = .inl ((D, n), b)) → ∀ σ', Pf σ3 σ' → fI σ' 0 5 = nI 0 → fI σ' 0 6 = M1 → Dm σ' D n u → drOK D → mw_plain_125 σ' Q := by
    intro D n u hp σ' hP h5 h6 hD hd
    obtain ⟨b, hp⟩ := hp
    have hop : opPlain Z = (nI n, ((wTp Z, 0), (nI 0, M1), wRf Z, D.1, (0, dH D, dA D, dT D, dK D, []), [], [], wD Z, wO Z)) := by unfold opPlain; rw [hp]
    rw [hop] at hQ
    unfold mw_plain_125
    simp only [forall_eq]
    rw [h5, show fI (sI σ' 0 7 (nI 0)) 0 6 = M1 by rw [fI_sI, if_neg (by decide)]; exact h6]
    rw [show fI (sI (sI σ' 0 7 (nI 0)) 0 8 M1) 0 5 = nI 0 by rw [fI_sI, if_neg (by decide), fI_sI, if_neg (by decide)]; exact h5]
    refine ⟨fun _ => ?_, fun z => absurd rfl z⟩
    have F7 : Fm [7, 8] [] [] σ' (sI (sI σ' 0 7 (nI 0)) 0 8 M1) := (Fm.sI _ _ (by decide)).trans (Fm.sI _ _ (by decide))
    have hD7 : Dm (sI (sI σ' 0 7 (nI 0)) 0 8 M1) D n u := by
      obtain ⟨q1, q2, q3, q4, q5, q6, q7, q8⟩ := hD
      exact ⟨⟨by rw [F7.1 49 (by decide)]; exact q1.1, q1.2.1, by rw [F7.1 48 (by decide)]; exact q1.2.2.1, q1.2.2.2⟩, q2, q3, q4, q5, q6, q7, ⟨q8.1.eqv rfl rfl rfl, q8.2.1.eqv rfl rfl rfl, q8.2.2.eqv rfl rfl rfl⟩⟩
    refine ml_stands hD7 hd (fun σ8 F8 hP8 hN8 hK8 h76 h71 => ?_)
    have e49 : fI σ8 0 49 = nI n := by rw [F8.1 49 (by decide)]; exact hD7.1.1
    rw [e49]
    refine hQ σ8 (mAll.ok h hd ?_ ?_ ?_ ?_ ?_ hP8 hN8 hK8 h76 h71)
    · exact (F3.wide (by decide) (by decide) (by simp)).trans ((hP.1.wide (by decide) (by decide) (by simp)).trans ((F7.wide (by decide) (by simp) (by simp)).trans (F8.wide (by decide) (by decide) (by decide))))
    · rw [F8.2.1 9 (by decide)]
      show fA σ' 9 = _
      rw [hP.1.2.1 9 (by decide), F3.2.1 9 (by decide)]
    · rw [F8.1 1 (by decide), F7.1 1 (by decide), hP.1.1 1 (by decide)]; exact w1
    · rw [F8.1 7 (by decide), fI_sI, if_neg (by decide), fI_sI, if_pos ⟨rfl, rfl⟩]
    · rw [F8.1 8 (by decide), fI_sI, if_pos ⟨rfl, rfl⟩]
  refine ml_head hT3 (fun c r b hp hc hr σ4 hP4 hM4 hT4 k0 k1 k2 => ?_) (fun q hp σ4 hP4 hB4 => ?_)
  · simp only [forall_eq]
    unfold mw_plain_103
    have hF5 : Fm [49] [] [] σ4 (sI σ4 0 49 1) := Fm.sI σ4 _ (by decide)
    have hT5 : Tok (sI σ4 0 49 1) (wTp Z) (wTn Z) b := hT4.fm hF5 (by decide) (by simp)
    have hpp : pPlain (wTp Z) (wTn Z) = pStms (wTp Z) (wTn Z) (wTn Z + 1 - b) 1 (D0 c r) b := by unfold pPlain; rw [hp]; rfl
    have g4 : ∀ a, a ∉ ([39] : List Nat) → fA (sI σ4 0 49 1) a = fA σ3 a := fun a ha => by show fA σ4 a = _; exact hM4.2.1 a ha
    have hD5 : Dm (sI σ4 0 49 1) (D0 c r) 1 0 := by
      refine ⟨⟨by rw [fI_sI]; rfl, by decide, by rw [fI_sI, if_neg (by decide), hM4.1 48 (by decide)]; exact w48, by decide⟩, ⟨k0, k1, ?_⟩, ⟨?_, ?_, ?_⟩, ⟨fun k w hk => ?_, fun k w hk => ?_⟩, fun d hd => ?_, fun p hp => absurd hp (Nat.not_lt_zero p), fun k q hk => ?_, ⟨?_, ?_, ?_⟩⟩
      · show fA σ4 39 2 = nI 0
        rw [k2, F13.2.1 39 (by decide)]; exact v39
      · rw [g4 40 (by decide), f3.2.1 40 (by decide), c40]; rfl
      · rw [g4 40 (by decide), f3.2.1 40 (by decide), c40]; rfl
      · rw [g4 40 (by decide), f3.2.1 40 (by decide), c40]; rfl
      · cases k <;> cases hk
      · cases k <;> cases hk
      · rw [g4 42 (by decide)]
        exact c42 _ (c7_lt (D0_ok hc hr).1 hd)
      · cases k <;> cases hk
      · show fA (sI σ4 0 49 1) 45 0 = M1
        rw [g4 45 (by decide), f3.2.1 45 (by decide), c45]; rfl
      · show fA (sI σ4 0 49 1) 45 1 = M1
        rw [g4 45 (by decide), f3.2.1 45 (by decide), c45]; rfl
      · show fA (sI σ4 0 49 1) 45 2 = M1
        rw [g4 45 (by decide), f3.2.1 45 (by decide), c45]; rfl
    intro X hX
    exact ml_stms (σ0 := σ3) (wTn Z + 1 - b) 1 0 (D0 c r) b (sI σ4 0 49 1) hT5 hD5 (D0_ok hc hr) (Nat.zero_le _) (hP4.trans (Pf.ofFm hF5 (by decide) (by decide))) (Nat.le_refl _) (fun D' n' b' hq σ' u' hP' hT' hD' hd' => good D' n' u' ⟨b', by rw [hpp]; exact hq⟩ σ' hP' hT'.2.2.2.1 hT'.2.2.2.2.1.2 hD' hd') (fun q hq σ' hP' hB' => bad q (by rw [hpp]; exact hq) σ' hP' hB') X hX
  · simp only [forall_eq]
    unfold mw_plain_103
    have hF5 : Fm [49] [] [] σ4 (sI σ4 0 49 1) := Fm.sI σ4 _ (by decide)
    have hB5 := hB4.fm hF5 (by decide) (by decide)
    intro X hX
    exact hX _ ⟨fun _ => bad q (by unfold pPlain; rw [hp]; rfl) _ (hP4.trans (Pf.ofFm hF5 (by decide) (by decide))) hB5, fun z => absurd z hB5.ne⟩
