/-! THE SYSTEM: kinds of the second switch; both together -/
theorem xl_moreK {ν0 : XN} {t : Nat → Nat} {e b m pl : Nat} {w : List Nat} (hw : ldI w = -1) : StK ν0 t e b m (fun D B => kSt w pl t e D B) (fun ν k n Q E => xw_X2_more_109 (ATr 6) (FCr 6) (nI pl) (mrI w) ν k n Q E) := by
  obtain ⟨n1, n2, n3, n4, n5⟩ := ldI_no hw
  have hk : (fun D B => kSt w pl t e D B) = (fun D B => if w = str 21 then kCode 0 pl t e D B else if w = str 22 then kCode 1 pl t e D B else if w = str 23 then kCode 2 pl t e D B else if w = str 24 then kCrowd t e D B else .inr (1, pl)) := by
    funext D B
    unfold kSt
    rw [if_neg n1, if_neg n2, if_neg n3, if_neg n4, if_neg n5]
  rw [hk]
  unfold mrI
  by_cases h1 : w = str 21
  · simp only [if_pos h1]
    exact xl_kCode01 (i := 0) (by decide)
  · simp only [if_neg h1]
    by_cases h2 : w = str 22
    · simp only [if_pos h2]
      exact xl_kCode01 (i := 1) (by decide)
    · simp only [if_neg h2]
      by_cases h3 : w = str 23
      · simp only [if_pos h3]
        exact xl_kCode2
      · simp only [if_neg h3]
        by_cases h4 : w = str 24
        · simp only [if_pos h4]
          exact xl_kCrowd
        · simp only [if_neg h4]
          intro ν a k n D Q E hS hd hb1 hb2 hQ hE
          show xw_X2_more_109 (ATr 6) (FCr 6) (nI pl) (-1) ν k n Q E
          unfold xw_X2_more_109
          refine ⟨fun z => absurd z (by decide), fun _ => ⟨fun z => absurd z (by decide), fun _ => ⟨fun z => absurd z (by decide), fun _ => ⟨fun z => absurd z (by decide), fun _ => ?_⟩⟩⟩⟩
          rw [i_1]
          exact xl_wrong (fun ν' f g d => hE ν' _ (Or.inl rfl) (hS.2.2.2.2.1.trans f.s) (hS.2.2.2.2.2.1.trans (Old.eq g)) d)
