/-! THE SYSTEM: one statement, walked up to its end -/
theorem ldI_no {w : List Nat} (h : ldI w = -1) : ¬ w = str 13 ∧ ¬ w = str 14 ∧ ¬ w = str 15 ∧ ¬ w = str 18 ∧ ¬ w = str 20 := by
  unfold ldI at h
  refine ⟨?_, ?_, ?_, ?_, ?_⟩ <;> intro z <;> subst z <;> exact absurd h (by decide)
/-- the word is hashed: all stays -/
theorem SD.hash {ν0 νp ν ν' : XN} {t : Nat → Nat} {e a B b m r : Nat} {D : Dr} (h : SD ν0 νp t e a b D m) (f : XTt νp.1 ν.1) (o : Old νp.2 ν.2) (T : Tk ν.1 t e B) (hz : rk νp.2 r = 0) (f' : ν'.1 = ν.1) (c : Chg (fun x => x = r) ν.2 ν'.2) : SD ν0 ν' t e B b D m :=
  h.mv (by rw [f']; exact f) (o.chg c (fun x hx => by rw [show x = r from hx]; exact hz)) (by rw [f']; exact T)
/-- kinds of the first switch -/
theorem xl_laidK {ν0 : XN} {t : Nat → Nat} {e b m pl : Nat} {w : List Nat} (hw : ¬ ldI w = -1) : StK ν0 t e b m (fun D B => kSt w pl t e D B) (fun ν k n Q E => xw_X2_laid_132 (nI pl) (ldI w) ν k n (fun r ν' => r = 1 → Q ν') E) := by
  have hcase : w = str 13 ∨ w = str 14 ∨ w = str 15 ∨ w = str 18 ∨ w = str 20 := by
    unfold ldI at hw
    by_cases h1 : w = str 13
    · exact Or.inl h1
    · by_cases h2 : w = str 14
      · exact Or.inr (Or.inl h2)
      · by_cases h3 : w = str 15
        · exact Or.inr (Or.inr (Or.inl h3))
        · by_cases h4 : w = str 18
          · exact Or.inr (Or.inr (Or.inr (Or.inl h4)))
          · by_cases h5 : w = str 20
            · exact Or.inr (Or.inr (Or.inr (Or.inr h5)))
            · rw [if_neg h1, if_neg h2, if_neg h3, if_neg h4, if_neg h5] at hw
              exact absurd rfl hw
  rcases hcase with rfl | rfl | rfl | rfl | rfl
  · exact xl_kHigh
  · exact xl_kTopic
  · intro ν a k n D Q E hS hd hb1 hb2 hQ hE
    show xw_X2_laid_132 (nI pl) 2 ν k n _ E
    unfold xw_X2_laid_132
    refine ⟨fun z => absurd z (by decide), fun _ => ⟨fun z => absurd z (by decide), fun _ => ⟨fun _ => ⟨k, n, 0, 0, by omega, by omega, ?_⟩, fun z => absurd rfl z⟩⟩⟩
    exact xl_kPers ν a k n D (fun ν' => (1 : Int32) = 1 → Q ν') E hS hd hb1 hb2 (fun ν' D' p p' h1 h2 h3 h4 h5 _ => hQ ν' D' p p' h1 h2 h3 h4 h5) hE
  · intro ν a k n D Q E hS hd hb1 hb2 hQ hE
    show xw_X2_laid_132 (nI pl) 3 ν k n _ E
    unfold xw_X2_laid_132
    refine ⟨fun z => absurd z (by decide), fun _ => ⟨fun z => absurd z (by decide), fun _ => ⟨fun z => absurd z (by decide), fun _ => ⟨fun _ => ⟨k, n, 0, 0, by omega, by omega, ?_⟩, fun z => absurd rfl z⟩⟩⟩⟩
    exact xl_kKnow ν a k n D (fun ν' => (1 : Int32) = 1 → Q ν') E hS hd hb1 hb2 (fun ν' D' p p' h1 h2 h3 h4 h5 _ => hQ ν' D' p p' h1 h2 h3 h4 h5) hE
  · intro ν a k n D Q E hS hd hb1 hb2 hQ hE
    show xw_X2_laid_132 (nI pl) 4 ν k n _ E
    unfold xw_X2_laid_132
    refine ⟨fun z => absurd z (by decide), fun _ => ⟨fun z => absurd z (by decide), fun _ => ⟨fun z => absurd z (by decide), fun _ => ⟨fun z => absurd z (by decide), fun _ => ⟨fun _ => ⟨k, n, 0, 0, by omega, by omega, ?_⟩, fun z => absurd rfl z⟩⟩⟩⟩⟩
    exact xl_kList ν a k n D (fun ν' => (1 : Int32) = 1 → Q ν') E hS hd hb1 hb2 (fun ν' D' p p' h1 h2 h3 h4 h5 _ => hQ ν' D' p p' h1 h2 h3 h4 h5) hE
