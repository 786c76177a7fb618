/-! what is told stays well, in plain terms -/
theorem kHigh_ok {t : Nat → Nat} {e a p : Nat} {D D' : Dr} (hd : drOK D) (h : kHigh t e D a = .inl (D', p)) : drOK D' := by
  obtain ⟨q, b1, h1, h2⟩ := pB_ok h
  obtain ⟨v, b2, h3, h4⟩ := pB_ok h2
  cases h4
  have hv := pNum_hi (q := v.2) h3
  refine ⟨hd.1, ⟨hd.2.1.1, fun d hdc => ?_, hd.2.1.2.2.1, hd.2.1.2.2.2⟩, hd.2.2⟩
  show up (dH D) q.1 v.1 d ≤ 99
  unfold up
  split
  · exact hv
  · exact hd.2.1.2.1 d hdc
theorem kCrowd_ok {t : Nat → Nat} {e a p : Nat} {D D' : Dr} (hd : drOK D) (h : kCrowd t e D a = .inl (D', p)) : drOK D' := by
  obtain ⟨v, b2, h3, h4⟩ := pB_ok h
  cases h4
  have hv := pNum_hi (q := v.2) h3
  obtain ⟨⟨g1, g2, g3, g4, g5, g6, g7, g8, g9, g10⟩, s, w1⟩ := hd
  exact ⟨⟨g1, g2, hv, g4, g5, g6, g7, g8, g9, g10⟩, s, w1⟩
theorem of_lt {ws : List (List Nat)} {t : Nat → Nat} {e a p : Nat} {q : Nat × Nat} (h : pOf ws t e a = .inl (q, p)) : q.1 < ws.length := by
  obtain ⟨x, b1, h1, h2⟩ := pB_ok h
  split at h2
  · rename_i z
    cases h2; exact z
  · cases h2
theorem kList_ok {t : Nat → Nat} {e a p pl : Nat} {D D' : Dr} (hd : drOK D) (h : kList pl t e D a = .inl (D', p)) : drOK D' := by
  unfold kList at h
  split at h
  · cases h
  · rename_i z
    obtain ⟨x, b1, h1, h2⟩ := pB_ok h
    obtain ⟨u, b2, h3, h4⟩ := pB_ok h2
    obtain ⟨y, b3, h5, h6⟩ := pB_ok h4
    cases h6
    have hx := of_lt h1
    have hy := of_lt h5
    obtain ⟨⟨g1, g2, g3, g4, g5, g6, g7, g8, g9, g10⟩, s, w1⟩ := hd
    refine ⟨⟨g1, g2, g3, g4, g5, ?_, fun q hq => ?_, g8, g9, g10⟩, s, w1⟩
    · show (plL D.1 ++ [(x.1, y.1)]).length ≤ 12
      rw [List.length_append]
      show (plL D.1).length + 1 ≤ 12
      omega
    · have hq2 : q ∈ plL D.1 ++ [(x.1, y.1)] := hq
      rcases List.mem_append.mp hq2 with z | z
      · exact g7 q z
      · simp at z; rw [z]; exact ⟨hx, hy⟩
theorem kKnow_ok {t : Nat → Nat} {e a p : Nat} {D D' : Dr} (hd : drOK D) (h : kKnow t e D a = .inl (D', p)) : drOK D' := by
  obtain ⟨x, b1, h1, h2⟩ := pB_ok h
  obtain ⟨u, b2, h3, h4⟩ := pB_ok h2
  obtain ⟨y, b3, h5, h6⟩ := pB_ok h4
  split at h6
  · cases h6
  · cases h6
    have hx : x.1 < nP D.1 := of_lt h1
    have hy : y.1 < nT D.1 := of_lt h5
    refine ⟨hd.1, ⟨hd.2.1.1, hd.2.1.2.1, fun j hj => ?_, hd.2.1.2.2.2⟩, hd.2.2⟩
    obtain ⟨r1, r2, r3⟩ := hd.2.1.2.2.1 j hj
    refine ⟨r1, r2, ?_⟩
    show up (dK D) x.1 (dK D x.1 ||| 2 ^ y.1) j < 2 ^ nT D.1
    unfold up
    split
    · exact Nat.or_lt_two_pow (hd.2.1.2.2.1 x.1 hx).2.2 (Nat.pow_lt_pow_right (by decide) hy)
    · exact r3
