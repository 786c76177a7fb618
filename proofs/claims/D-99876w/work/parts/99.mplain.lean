/-! THE REFERENCE: a plain told -/
theorem ml_stands {σ : FS} {D : Dr} {n u : Nat} {Q : FS → Prop} (hD : Dm σ D n u) (hd : drOK D) (hQ : ∀ σ', Fm [50, 71, 76] [39, 40, 44, 45, 46, 47, 52] [41] σ σ' → mP σ' D.1 → mN σ' D.1 (stD D) → mKe σ' [] → fI σ' 0 76 = nI 0 → fI σ' 0 71 = nI 0 → Q σ') : mw_stands σ Q := by
  obtain ⟨h1, h2, h3, h4, h5, h6, h7, h8⟩ := hD
  have hp7 := hd.1.2.2.2.2.1
  have ht5 := hd.1.2.2.2.1
  have hl12 := hd.1.2.2.2.2.2.1
  unfold mw_stands
  simp only [forall_eq]
  have f0 : Fm [50] [] [] σ (sI σ 0 50 1) := Fm.sI σ _ (by decide)
  have h50 : fI (sI σ 0 50 1) 0 50 = nI 1 := by rw [fI_sI]; rfl
  revert f0 h50
  generalize sI σ 0 50 1 = σ1
  intro f0 h50
  refine ml_st7 (fun σ2 f2 c2 => ml_st76 (fun σ3 f3 c3 => ml_st105 (fun σ4 f4 c4 => ml_st134 (u := u) (by rw [f4.1 48 (by simp), f3.1 48 (by simp), f2.1 48 (by simp), f0.1 48 (by decide)]; exact h1.2.2.1) h1.2.2.2 (fun σ5 f5 c5 => ml_st166 (fun σ6 f6 c6 => ml_st188 (fun σ7 f7 c7' => ml_st216 (p := nP D.1) (by rw [f7.2.1 40 (by decide), f6.2.1 40 (by decide), f5.2.1 40 (by decide), f4.2.1 40 (by decide), f3.2.1 40 (by simp), (c2 40 (by decide)).lo (by decide), f0.2.1 40 (by simp)]; exact h3.2.1) hp7 (fun σ8 f8 c8 => ?_)))))))
  have F8 : Fm [50, 71, 76] [39, 40, 44, 45, 46, 47, 52] [41] σ (sI (sI σ8 0 76 (nI 0)) 0 71 (nI 0)) :=
    (f0.wide (by decide) (by simp) (by simp)).trans ((f2.wide (by simp) (by decide) (by simp)).trans ((f3.wide (by simp) (by simp) (by decide)).trans ((f4.wide (by simp) (by decide) (by simp)).trans ((f5.wide (by simp) (by decide) (by simp)).trans ((f6.wide (by simp) (by decide) (by simp)).trans ((f7.wide (by simp) (by decide) (by simp)).trans ((f8.wide (by simp) (by decide) (by simp)).trans ((Fm.sI _ _ (by decide)).trans (Fm.sI _ _ (by decide))))))))))
  have a3 : ∀ a ∈ ([39, 40, 45, 46] : List Nat), ∀ i, i < 3 → fA σ8 a (3 + i) = fA σ a i := by
    intro a ha i hi
    have h4' : a = 39 ∨ a = 40 ∨ a = 45 ∨ a = 46 := by simpa using ha
    have hc := (c2 a ha).at hi
    rw [f8.2.1 a (by simp; omega), f7.2.1 a (by simp; omega), f6.2.1 a (by simp; omega), f5.2.1 a (by simp; omega), f4.2.1 a (by simp; omega), f3.2.1 a (by simp), hc, f0.2.1 a (by simp)]
  have b41 : ∀ i, i < 16 → fB σ8 41 (16 + i) = fB σ 41 i := by
    intro i hi
    rw [f8.2.2.1 41 (by simp), f7.2.2.1 41 (by simp), f6.2.2.1 41 (by simp), f5.2.2.1 41 (by simp), f4.2.2.1 41 (by simp), c3.at hi, f2.2.2.1 41 (by simp), f0.2.2.1 41 (by simp)]
  have a44 : ∀ i, i < 24 → fA σ8 44 (24 + i) = fA σ 44 i := by
    intro i hi
    rw [f8.2.1 44 (by decide), f7.2.1 44 (by decide), f6.2.1 44 (by decide), f5.2.1 44 (by decide), c4.at hi, f3.2.1 44 (by simp), f2.2.1 44 (by decide), f0.2.1 44 (by simp)]
  have a47 : ∀ i, i < u → fA σ8 47 (1600 + i) = fA σ 47 i := by
    intro i hi
    rw [f8.2.1 47 (by decide), f7.2.1 47 (by decide), f6.2.1 47 (by decide), c5.at hi, f4.2.1 47 (by decide), f3.2.1 47 (by simp), f2.2.1 47 (by decide), f0.2.1 47 (by simp)]
  have a52 : ∀ i, fA σ8 52 i = if 50 ≤ i ∧ i < 50 + 3 * nP D.1 then fA σ 43 (i - 50) else if 1 ≤ i ∧ i < 50 then fA σ 42 (i - 1) else if i < 232 then nI 0 else fA σ 52 i := by
    intro i
    rw [c8 i, c7' i, c6 i]
    have e43 : fA σ7 43 = fA σ 43 := by rw [f7.2.1 43 (by decide), f6.2.1 43 (by decide), f5.2.1 43 (by decide), f4.2.1 43 (by decide), f3.2.1 43 (by simp), f2.2.1 43 (by decide), f0.2.1 43 (by simp)]
    have e42 : fA σ6 42 = fA σ 42 := by rw [f6.2.1 42 (by decide), f5.2.1 42 (by decide), f4.2.1 42 (by decide), f3.2.1 42 (by simp), f2.2.1 42 (by decide), f0.2.1 42 (by simp)]
    have e52 : fA σ5 52 = fA σ 52 := by rw [f5.2.1 52 (by decide), f4.2.1 52 (by decide), f3.2.1 52 (by simp), f2.2.1 52 (by decide), f0.2.1 52 (by simp)]
    rw [e43, e42, e52]
    by_cases z1 : 50 ≤ i ∧ i < 50 + 3 * nP D.1
    · rw [if_pos z1, if_pos z1]
    · rw [if_neg z1, if_neg z1]
      by_cases z2 : 1 ≤ i ∧ i < 50
      · rw [if_pos (by omega), if_pos z2]
      · rw [if_neg (by omega), if_neg z2]
        by_cases z3 : i < 232
        · rw [if_pos (by omega), if_pos z3]
        · rw [if_neg (by omega), if_neg z3]
  have g52 : fA (sI (sI σ8 0 76 (nI 0)) 0 71 (nI 0)) = fA σ8 := rfl
  have gB : fB (sI (sI σ8 0 76 (nI 0)) 0 71 (nI 0)) = fB σ8 := rfl
  have cd : ∀ w o, w < 3 → cdM σ u w o → mCd (sI (sI σ8 0 76 (nI 0)) 0 71 (nI 0)) w o := by
    intro w o hw hc
    cases o with
    | none =>
      unfold mCd
      rw [g52, a3 45 (by decide) w hw]; exact hc
    | some cs =>
      obtain ⟨f, q1, q2, q3, q4⟩ := hc
      refine ⟨f, by rw [g52, a3 45 (by decide) w hw]; exact q1, by rw [g52, a3 46 (by decide) w hw]; exact q2, by omega, fun i c hi => ?_⟩
      have := (List.getElem?_eq_some_iff.mp hi).1
      rw [g52, a47 _ (by omega)]; exact q4 i c hi
  refine hQ _ F8 ?_ ?_ ?_ (by simp [fI_sI]) (by simp [fI_sI])
  · refine ⟨hd.1, ?_, ⟨?_, ?_, ?_⟩, ⟨?_, ?_, ?_⟩, fun k q hk => ?_, ⟨cd 0 _ (by decide) h8.1, cd 1 _ (by decide) h8.2.1, cd 2 _ (by decide) h8.2.2⟩, fun k w hk => ?_, fun k w hk => ?_⟩
    · rw [fI_sI, if_neg (by decide), fI_sI, if_neg (by decide), f8.1 50 (by simp), f7.1 50 (by simp), f6.1 50 (by simp), f5.1 50 (by simp), f4.1 50 (by simp), f3.1 50 (by simp), f2.1 50 (by simp)]; exact h50
    · rw [g52]; exact (a3 39 (by decide) 0 (by decide)).trans h2.1
    · rw [g52]; exact (a3 39 (by decide) 1 (by decide)).trans h2.2.1
    · rw [g52]; exact (a3 39 (by decide) 2 (by decide)).trans h2.2.2
    · rw [g52]; exact (a3 40 (by decide) 0 (by decide)).trans h3.1
    · rw [g52]; exact (a3 40 (by decide) 1 (by decide)).trans h3.2.1
    · rw [g52]; exact (a3 40 (by decide) 2 (by decide)).trans h3.2.2
    · have := (List.getElem?_eq_some_iff.mp hk).1
      obtain ⟨r1, r2⟩ := h7 k q hk
      rw [g52]
      refine ⟨(a44 (2 * k) (by omega)).trans r1, ?_⟩
      rw [show 25 + 2 * k = 24 + (2 * k + 1) by omega]
      exact (a44 (2 * k + 1) (by omega)).trans r2
    · have := (List.getElem?_eq_some_iff.mp hk).1
      unfold nT at ht5
      rw [gB]; exact (b41 k (by omega)).trans (h4.1 k w hk)
    · have := (List.getElem?_eq_some_iff.mp hk).1
      unfold nP at hp7
      rw [gB, show 24 + k = 16 + (8 + k) by omega]
      exact (b41 (8 + k) (by omega)).trans (h4.2 k w hk)
  · refine ⟨hd.2.1, ?_, fun c hc => ?_, fun p hp => ?_⟩
    · rw [g52, a52, if_neg (by omega), if_neg (by omega), if_pos (by omega)]; rfl
    · have hc49 := c7_lt hd.1 hc
      rw [g52, a52, if_neg (by omega), if_pos (by omega), show 1 + c7 c - 1 = c7 c by omega]
      exact h5 c hc
    · have := h6 p hp
      rw [g52, a52, if_pos (by omega), a52, if_pos (by omega), a52, if_pos (by omega), show 50 + 3 * p - 50 = 3 * p by omega, show 51 + 3 * p - 50 = 3 * p + 1 by omega, show 52 + 3 * p - 50 = 3 * p + 2 by omega]
      exact this
  · refine ⟨?_, by simp, fun k r hk => by simp at hk⟩
    rw [g52, a52, if_neg (by omega), if_neg (by omega), if_pos (by omega)]; rfl
