/-! what is told stays well: names, rules -/
theorem name_ok {t : Nat → Nat} {e a p : Nat} {q : List Nat × Nat} (h : pName t e a = .inl (q, p)) : nmOK q.1 := by
  obtain ⟨x, b1, h1, h2⟩ := pB_ok h
  split at h2
  · cases h2
  · split at h2
    · cases h2
    · rename_i z
      cases h2
      unfold pWord at h1
      split at h1
      · rename_i y
        cases h1
        obtain ⟨w1, w2, -, w4⟩ := wE_spec y.1
        refine ⟨by rw [wd_len]; omega, by omega, fun c hc => ?_⟩
        obtain ⟨i, hi⟩ := List.getElem?_of_mem hc
        have hl := (List.getElem?_eq_some_iff.mp hi).1
        rw [wd_len] at hl
        rw [wd_at hl] at hi
        cases hi
        have := w4 _ (Nat.le_add_right _ i) (by omega)
        unfold isLt at this
        simpa using this
      · cases h1
theorem new_ok {P : Pl} {t : Nat → Nat} {e a p : Nat} {w : List Nat} (h : pNew P t e a = .inl (w, p)) : nmOK w := by
  obtain ⟨x, b1, h1, h2⟩ := pB_ok h
  have := name_ok h1
  split at h2
  · cases h2
  · cases h2; exact this
theorem kCode_ok {t : Nat → Nat} {e a p pl i : Nat} {D D' : Dr} (hi : i < 3) (ha : a ≤ e) (he : e ≤ 1600) (hd : drOK D) (h : kCode i pl t e D a = .inl (D', p)) : drOK D' := by
  unfold kCode at h
  split at h
  · cases h
  · obtain ⟨cs, b1, h1, h2⟩ := pB_ok h
    cases h2
    refine setC_ok hi hd h1 ?_
    unfold pCds at h1
    split at h1
    · have := adv_test (adv_fact _ _ _ _) _ _ _ ha h1
      omega
    · have := adv_sum (adv_atom _ _ _ _) _ _ _ ha h1
      omega
theorem kTopic_ok {t : Nat → Nat} {e a p pl : Nat} {D D' : Dr} (hd : drOK D) (h : kTopic pl t e D a = .inl (D', p)) : drOK D' := by
  unfold kTopic at h
  split at h
  · cases h
  · rename_i z
    obtain ⟨w, b1, h1, h2⟩ := pB_ok h
    cases h2
    have hw := new_ok h1
    obtain ⟨⟨g1, g2, g3, g4, g5, g6, g7, g8, g9, g10⟩, ⟨s1, s2, s3, s4⟩, w1⟩ := hd
    have hnt : nT (addT D.1 w) = nT D.1 + 1 := by
      show (plT D.1 ++ [w]).length = _
      rw [List.length_append]; rfl
    refine ⟨⟨g1, g2, g3, by rw [hnt]; omega, g5, g6, fun q hq => ?_, g8, g9, g10⟩, ⟨s1, s2, fun q hq => ?_, s4⟩, fun x hx => ?_⟩
    · have := g7 q hq
      exact ⟨this.1, by rw [hnt]; omega⟩
    · obtain ⟨y1, y2, y3⟩ := s3 q hq
      refine ⟨y1, y2, Nat.lt_of_lt_of_le y3 ?_⟩
      show 2 ^ nT D.1 ≤ 2 ^ nT (addT D.1 w)
      rw [hnt]
      exact Nat.pow_le_pow_right (by decide) (by omega)
    · rcases hx with hx | hx
      · have hx2 : x ∈ plT D.1 ++ [w] := hx
        rcases List.mem_append.mp hx2 with z | z
        · exact w1 x (Or.inl z)
        · simp at z; rw [z]; exact hw
      · exact w1 x (Or.inr hx)
theorem kPers_ok {t : Nat → Nat} {e a p pl : Nat} {D D' : Dr} (hd : drOK D) (h : kPers pl t e D a = .inl (D', p)) : drOK D' := by
  by_cases z : nP D.1 = 7
  · unfold kPers at h; rw [if_pos z] at h; cases h
  · rw [kP_e z] at h
    obtain ⟨w, b1, h1, h2⟩ := pB_ok h
    have hw := new_ok h1
    obtain ⟨u, b2, h3, h4⟩ := pB_ok h2
    obtain ⟨c, b3, h5, h6⟩ := pB_ok h4
    split at h6
    · cases h6
    · obtain ⟨u2, b4, h7, h8⟩ := pB_ok h6
      obtain ⟨v, b5, h9, h10⟩ := pB_ok h8
      cases h10
      have hv := pNum_hi (q := v.2) h9
      obtain ⟨⟨g1, g2, g3, g4, g5, g6, g7, g8, g9, g10⟩, ⟨s1, s2, s3, s4⟩, w1⟩ := hd
      have hc : isC D.1 c.1 := by
        obtain ⟨x, c1, k1, k2⟩ := pB_ok h5
        obtain ⟨y, c2, k3, k4⟩ := pB_ok k2
        cases k4
        have q1 := pNum_hi (q := x.2) k1
        have q2 := pNum_hi (q := y.2) k3
        show isC D.1 (8 * y.1 + x.1)
        unfold isC
        omega
      have hnp : nP (addN D.1 w) = nP D.1 + 1 := by
        show (plN D.1 ++ [w]).length = _
        rw [List.length_append]; rfl
      refine ⟨⟨g1, g2, g3, g4, by rw [hnp]; omega, g6, fun q hq => ?_, g8, g9, g10⟩, ⟨s1, s2, fun p hp => ?_, s4⟩, fun x hx => ?_⟩
      · have := g7 q hq
        exact ⟨by rw [hnp]; omega, this.2⟩
      · have hp2 : p < nP D.1 + 1 := by rw [← hnp]; exact hp
        show isC D.1 (up (dA D) (nP D.1) c.1 p) ∧ up (dT D) (nP D.1) v.1 p ≤ 9 ∧ up (dK D) (nP D.1) 0 p < 2 ^ nT D.1
        unfold up
        by_cases z : p = nP D.1
        · rw [if_pos z, if_pos z, if_pos z]
          exact ⟨hc, hv, Nat.pow_pos (by decide)⟩
        · rw [if_neg z, if_neg z, if_neg z]
          exact s3 p (by omega)
      · rcases hx with hx | hx
        · exact w1 x (Or.inl hx)
        · have hx2 : x ∈ plN D.1 ++ [w] := hx
          rcases List.mem_append.mp hx2 with z | z
          · exact w1 x (Or.inr z)
          · simp at z; rw [z]; exact hw
