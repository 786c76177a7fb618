/-! THE SYSTEM: is a cell taken -/
theorem tkn_no {D : Dr} {c : Nat} (h : ∀ p, p < nP D.1 → dA D p ≠ c) : tkn D c = false := by
  unfold tkn
  rw [List.any_eq_false]
  intro p hp
  rw [decide_eq_true_iff]
  exact h p (List.mem_range.mp hp)
theorem tkn_yes {D : Dr} {c p : Nat} (hp : p < nP D.1) (h : dA D p = c) : tkn D c = true := by
  unfold tkn
  rw [List.any_eq_true]
  exact ⟨p, List.mem_range.mpr hp, by rw [decide_eq_true_iff]; exact h⟩
theorem xl_isTaken {M : Nat → Prop} {ν : XN} {b n c : Nat} {D : Dr} {Q : Int32 → XN → Prop} (h : xDr M ν.2 b D n) (hP : nP D.1 ≤ 7) (hA : ∀ p, p < nP D.1 → dA D p < 1000) (hc : c < 1000) (hy : tkn D c = true → Q (nI 1) ν) (hn : tkn D c = false → Q (nI 0) ν) : xw_X1_isTaken b (nI c) ν Q := by
  obtain ⟨h1, h2, h3, -, ⟨lp, pa, p1, p2, p3, p4⟩, -⟩ := h.parts
  have hl : pa.length = nP D.1 := p3.1
  unfold xw_X1_isTaken xw_X1_isTaken_2
  intro X hX
  have key : ∀ m i, nP D.1 - i = m → i ≤ nP D.1 → (∀ j, j < i → dA D j ≠ c) → X b (nI c) (nI i) ν := by
    intro m
    induction m with
    | zero =>
      intro i hm hi hf
      refine hX _ _ _ _ ⟨h2, lp, p1, p2.1, xl_size p2 ?_⟩
      rw [hl, nI_leI (by omega) (by omega)]
      exact ⟨fun _ => hn (tkn_no (fun p hp => hf p (by omega))), fun z => absurd (by omega) z⟩
    | succ m ih =>
      intro i hm hi hf
      obtain ⟨ai, hai⟩ : ∃ ai, pa[i]? = some ai := ⟨_, List.getElem?_eq_getElem (show i < pa.length by omega)⟩
      obtain ⟨q1, q2, -, -⟩ := p4 i ai hai
      have hAi := hA i (by omega)
      refine hX _ _ _ _ ⟨h2, lp, p1, p2.1, xl_size p2 ?_⟩
      rw [hl, nI_leI (by omega) (by omega)]
      refine ⟨fun z => by omega, fun _ => ⟨h2, lp, p1, p2.1, xl_get p2 hai ⟨ai, rfl, rcO q1 (by decide), rcO q1 (by decide), ?_⟩⟩⟩
      rw [q2, nI_eq (by omega) (by omega), nI_1]
      refine ⟨fun z => ih (i + 1) (by omega) (by omega) (fun j hj => ?_), fun z => hy (tkn_yes (by omega) z)⟩
      by_cases v : j = i
      · rw [v]; exact z
      · exact hf j (by omega)
  exact key _ 0 rfl (by omega) (fun j hj => by omega)
