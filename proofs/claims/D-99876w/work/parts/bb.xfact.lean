/-! THE SYSTEM: a fact -/
theorem TTs.up {al : Nat → Bool} {b0 d d' a : Nat} {N : Nat → Prop} {ρ : RS} {cs : List Nat} (h : TTs al b0 d N ρ a cs) (hd : d ≤ d') : TTs al b0 d' N ρ a cs := ⟨h.1, fun ρ' hs => (VT.up2 hd a cs).2 (h.2 ρ' hs)⟩
theorem lt_no40 {c : Nat} (h : isLt c = true) : ¬ c = 40 ∧ ¬ c = 91 ∧ ¬ isDg c = true := by
  unfold isLt at h
  unfold isDg
  simp only [decide_eq_true_eq] at h ⊢
  omega
theorem nx_0 {t : Nat → Nat} {e a : Nat} (h : ¬ isLt (bt t e (lk t e a)) = true) : nx t e a = 0 := by
  unfold nx wE
  rw [run_stop (fun z => h (by rw [bt_at z.1]; exact z.2))]
  omega
theorem nx_atomG {al : Nat → Bool} {rec : Option (Nat → PR (List Nat))} {t : Nat → Nat} {e : Nat} (hr : ∀ AT, rec = some AT → adv e AT) {a b : Nat} {cs : List Nat} (ha : a ≤ e) (h : pAtomG al rec t e a = .inl (cs, b)) : nx t e a ≤ b - a := by
  by_cases hL : isLt (bt t e (lk t e a)) = true
  · obtain ⟨n40, -, nd⟩ := lt_no40 hL
    obtain ⟨l1, l2, -, -⟩ := lk_spec (t := t) ha
    obtain ⟨w1, w2, -, -⟩ := wE_spec hL
    unfold pAtomG at h
    rw [if_neg n40, if_neg nd] at h
    obtain ⟨q, B, h1, h2⟩ := pB_ok h
    have hB : B = wE t e (lk t e a) := by
      unfold pWord at h1
      split at h1
      · cases h1; rfl
      · cases h1
    unfold nx
    rw [← hB] at w1 w2 ⊢
    have hle : B ≤ b := by
      split at h2
      · cases h2; exact Nat.le_refl _
      · split at h2
        · cases hrc : rec with
          | none => rw [hrc] at h2; cases h2
          | some AT =>
            rw [hrc] at h2
            obtain ⟨x, b1, y1, y2⟩ := pB_ok h2
            cases y2
            have := hr AT hrc _ _ _ w2 y1
            omega
        · split at h2
          · rename_i hmm
            split at h2
            · rename_i z40
              cases hrc : rec with
              | none => rw [hrc] at h2; cases h2
              | some AT =>
                rw [hrc] at h2
                have hlt : lk t e B < e := by
                  unfold bt at z40
                  split at z40
                  · assumption
                  · omega
                have hl := (lk_spec (t := t) w2).1
                obtain ⟨x, b1, y1, y2⟩ := pB_ok h2
                have a1 := adv_sum (hr AT hrc) _ _ _ (by omega) y1
                obtain ⟨u, b2, y3, y4⟩ := pB_ok y2
                have a2 := pSign_ok a1.2 (by decide) y3
                have a3 := lk_spec (t := t) a1.2
                obtain ⟨x2, b3, y5, y6⟩ := pB_ok y4
                have a4 := adv_sum (hr AT hrc) _ _ _ (by omega) y5
                obtain ⟨u2, b4, y7, y8⟩ := pB_ok y6
                have a5 := pSign_ok a4.2 (by decide) y7
                have a6 := lk_spec (t := t) a4.2
                cases y8
                omega
            · cases h2
          · cases h2
    omega
  · rw [nx_0 hL]; omega
theorem nx_atom {al : Nat → Bool} {t : Nat → Nat} {e r a b : Nat} {cs : List Nat} (ha : a ≤ e) (h : pAtom al t e r a = .inl (cs, b)) : nx t e a ≤ b - a := by
  cases r with
  | zero => exact nx_atomG (fun AT h => by cases h) ha h
  | succ r => exact nx_atomG (fun AT h => by cases h; exact adv_atom al t e r) ha h
theorem nx_sum {al : Nat → Bool} {t : Nat → Nat} {e r a b : Nat} {cs : List Nat} (ha : a ≤ e) (h : pSum (pAtom al t e r) t e a = .inl (cs, b)) : nx t e a ≤ b - a := by
  have hv := adv_atom al t e r
  obtain ⟨x, b1, y1, y2⟩ := pB_ok h
  obtain ⟨x2, b2, y3, y4⟩ := pB_ok y1
  have h1 := nx_atom ha y3
  have h2 := hv _ _ _ ha y3
  have h3 := chL_adv (by decide) hv _ _ _ _ _ h2.2 y4
  have h4 := chL_adv (by decide) (adv_prod hv) _ _ _ _ _ h3.2 y2
  omega
theorem at_lk {al : Nat → Bool} {rec : Option (Nat → PR (List Nat))} {t : Nat → Nat} {e a a' : Nat} (h : lk t e a' = lk t e a) : pAtomG al rec t e a' = pAtomG al rec t e a := by
  unfold pAtomG pNum pWord
  rw [h]
theorem sum_lk {al : Nat → Bool} {t : Nat → Nat} {e r a a' : Nat} (h : lk t e a' = lk t e a) : pSum (pAtom al t e r) t e a' = pSum (pAtom al t e r) t e a := by
  have : pAtom al t e r a' = pAtom al t e r a := by rw [pAtom_rec]; exact at_lk h
  unfold pSum pProd
  rw [this]
theorem sum_bad {al : Nat → Bool} {t : Nat → Nat} {e r a : Nat} (hL : isLt (bt t e (lk t e a)) = true) (hp : prt t (lk t e a) = true) : pSum (pAtom al t e r) t e a = .inr (1, lk t e a) := by
  obtain ⟨n40, -, nd⟩ := lt_no40 hL
  have hw : pWord t e a = .inr (1, lk t e a) := by
    unfold pWord
    rw [if_neg (fun z => by rw [hp] at z; cases z.2)]
  have : pAtom al t e r a = .inr (1, lk t e a) := by
    rw [pAtom_rec]
    unfold pAtomG
    rw [if_neg n40, if_neg nd, hw]
    rfl
  unfold pSum pProd
  rw [this]
  rfl
def recF (al : Nat → Bool) (t : Nat → Nat) (e : Nat) : Nat → Option (Nat → PR (List Nat))
  | 0 => none
  | r + 1 => some (pFact al t e r)
theorem pFact_rec (al : Nat → Bool) (t : Nat → Nat) (e r : Nat) : pFact al t e r = pFactG (pAtom al t e r) (recF al t e r) t e := by cases r <;> rfl
theorem nx_fact {al : Nat → Bool} {t : Nat → Nat} {e r a b : Nat} {cs : List Nat} (ha : a ≤ e) (h : pFactG (pAtom al t e r) (recF al t e r) t e a = .inl (cs, b)) : nx t e a ≤ b - a := by
  by_cases hL : isLt (bt t e (lk t e a)) = true
  · obtain ⟨-, n91, -⟩ := lt_no40 hL
    obtain ⟨l1, l2, -, -⟩ := lk_spec (t := t) ha
    obtain ⟨w1, w2, -, -⟩ := wE_spec hL
    have hr : ∀ F, recF al t e r = some F → adv e F := fun F hF => by
      cases r with
      | zero => cases hF
      | succ r => cases hF; exact adv_fact al t e r
    unfold pFactG at h
    rw [if_neg n91] at h
    split at h
    · cases hrc : recF al t e r with
      | none => rw [hrc] at h; cases h
      | some F =>
        rw [hrc] at h
        obtain ⟨x, b1, y1, y2⟩ := pB_ok h
        cases y2
        have := hr F hrc _ _ _ w2 y1
        unfold nx
        omega
    · split at h
      · cases h; unfold nx; omega
      · obtain ⟨x, b1, y1, y2⟩ := pB_ok h
        have h1 := nx_sum ha y1
        have h2 := adv_sum (adv_atom al t e r) _ _ _ ha y1
        split at y2
        · cases y2
        · rename_i hz
          have hlt := opC_lt hz
          obtain ⟨x2, b2, y3, y4⟩ := pB_ok y2
          have h4 := lk_spec (t := t) h2.2
          have h3 := adv_sum (adv_atom al t e r) _ _ _ (by omega) y3
          cases y4
          omega
  · rw [nx_0 hL]; omega
theorem opC_iff {c : Nat} : (opC c = 0 ∧ c ≠ 60 ∧ c ≠ 61 ∧ c ≠ 62) ∨ (opC c ≠ 0 ∧ (c = 60 ∨ c = 61 ∨ c = 62)) := by
  unfold opC
  split
  · right; exact ⟨by decide, by omega⟩
  · split
    · right; exact ⟨by decide, by omega⟩
    · split
      · right; exact ⟨by decide, by omega⟩
      · left; exact ⟨rfl, by omega⟩
