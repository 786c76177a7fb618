/-! THE SYSTEM: what tells who was asked; an image comes -/
theorem xl_mostBy {ν : XN} {b d c set t : Nat} {P : Pl} {s : St} {Q : Int32 → XN → Prop} (hb : xPb ν b P) (hP : plOK P) (hs : stOK P s) (hfx : xFx ν.1) (hW : xWy ν.1 P s t (nP P)) (hset : set < 128) (hd : d < dEnd s) (hc : isC P c) (hQ : Q (nI (mostS (nP P) set (vS P s t d c))) ν) : xw_X0_mostBy (nI set) (nI d) (nI c) ν Q := by
  have h7 := hb.2.2.2.2.2.2.2.2
  have hcl := isC_lt hP hc
  have hd31 : d < 31 ∧ zD s + d ≤ 999 := by unfold dEnd at hd; omega
  have v9 : ∀ p, vS P s t d c p ≤ 99 := fun p => (zDs_ok hP d 0 (zAs P 0 s p t) (zAs_ok hs _ _ _) (by rw [zAs_D]; omega)).1.2.1 c hc
  have row : ∀ p, p < nP P → fA ν.1 (fP ν.1 (fP ν.1 9 p) d) c = nI (vS P s t d c p) ∧ xok 7 (fP ν.1 9 p) ∧ xlen (fP ν.1 9 p) = 31 ∧ xok 1 (fP ν.1 (fP ν.1 9 p) d) ∧ xlen (fP ν.1 (fP ν.1 9 p) d) = 64 := by
    intro p hp
    rw [hfx.2.2.1 p (by omega), hfx.2.2.2 p d (by omega) (by omega)]
    exact ⟨hW p d c hp hd hc, (xat_2 (by omega) (by omega)).1, (xat_2 (by omega) (by omega)).2, (xat_3 (by omega) (by omega)).1, (xat_3 (by omega) (by omega)).2⟩
  unfold xw_X0_mostBy xw_X0_mostBy_6
  intro X hX
  have key : ∀ m a best, nP P - a = m → a ≤ nP P → best ≤ 7 → ((List.range (nP P)).drop a).foldl (fun m a => if set / 2 ^ a % 2 = 1 then (if m < cntS (nP P) set (vS P s t d c) (vS P s t d c a) then cntS (nP P) set (vS P s t d c) (vS P s t d c a) else m) else m) best = mostS (nP P) set (vS P s t d c) → X (nI set) (nI d) (nI c) (nI best) (nI a) ν := by
    intro m
    induction m with
    | zero =>
      intro a best hm ha hbest he
      rw [rng_end (by omega)] at he
      have he : best = mostS (nP P) set (vS P s t d c) := he
      refine hX _ _ _ _ _ _ (xl_people hb ⟨fun _ => by rw [he]; exact hQ, fun z => absurd ((nI_leI (by omega) (by omega)).mpr (by omega)) z⟩)
    | succ m ih =>
      intro a best hm ha hbest he
      rw [rng_at (by omega), List.foldl_cons] at he
      refine hX _ _ _ _ _ _ (xl_people hb ⟨fun z => absurd ((nI_leI (by omega) (by omega)).mp z) (by omega), fun _ => ?_⟩)
      unfold xw_X0_mostBy_21
      intro Y hY
      have hcle := cntS_le (nP P) set (vS P s t d c) (vS P s t d c a)
      have inner : ∀ m2 e k, nP P - e = m2 → e ≤ nP P → k ≤ e → (if set / 2 ^ a % 2 = 1 then ((List.range (nP P)).drop e).foldl (fun k b => if set / 2 ^ b % 2 = 1 ∧ vS P s t d c a = vS P s t d c b then k + 1 else k) k = cntS (nP P) set (vS P s t d c) (vS P s t d c a) else k = 0) → Y (nI set) (nI d) (nI c) (nI best) (nI a) (nI k) (nI e) ν := by
        intro m2
        induction m2 with
        | zero =>
          intro e k hm2 he2 hk hcnt
          refine hY _ _ _ _ _ _ _ _ (xl_people hb ⟨fun _ => ?_, fun z => absurd ((nI_leI (by omega) (by omega)).mpr (by omega)) z⟩)
          unfold xw_J12_max
          rw [nI_ltI (by omega) (by omega), nI_1]
          by_cases w : set / 2 ^ a % 2 = 1
          · rw [if_pos w] at hcnt he
            rw [rng_end (by omega)] at hcnt
            have hcnt : k = cntS (nP P) set (vS P s t d c) (vS P s t d c a) := hcnt
            refine ⟨fun z => ?_, fun z => ?_⟩
            · rw [if_pos (by omega), ← hcnt] at he
              exact ih (a + 1) k (by omega) (by omega) (by omega) he
            · rw [if_neg (by omega)] at he
              exact ih (a + 1) best (by omega) (by omega) hbest he
          · rw [if_neg w] at hcnt he
            subst hcnt
            exact ⟨fun z => by omega, fun _ => ih (a + 1) best (by omega) (by omega) hbest he⟩
        | succ m2 ih2 =>
          intro e k hm2 he2 hk hcnt
          have ra := row a (by omega)
          have re := row e (by omega)
          have hva := v9 a
          have hve := v9 e
          refine hY _ _ _ _ _ _ _ _ (xl_people hb ⟨fun z => absurd ((nI_leI (by omega) (by omega)).mp z) (by omega), fun _ => ?_⟩)
          unfold xw_X0_mostBy_79 xw_X0_mostBy_80
          refine xl_has (by omega) (by omega) (fun wa => ⟨fun q => absurd q (by decide), fun _ => ?_⟩) (fun wa => ⟨fun _ => ?_, fun q => absurd rfl q⟩)
          · rw [if_pos wa, rng_at (by omega), List.foldl_cons] at hcnt
            refine xl_has (by omega) (by omega) (fun we => ⟨fun q => absurd q (by decide), fun _ => ?_⟩) (fun we => ⟨fun _ => ?_, fun q => absurd rfl q⟩)
            · rw [nI_clamp (show a < 2 ^ 31 by omega), nI_clamp (show e < 2 ^ 31 by omega), nI_clamp (show d < 2 ^ 31 by omega), nI_clamp (show c < 2 ^ 31 by omega), ra.2.2.1, ra.2.2.2.2, re.2.2.1, re.2.2.2.2, ra.1, re.1, nI_eq (by omega) (by omega)]
              refine ⟨vp_in_nI (by omega) (by decide), ra.2.1, vp_in_nI (by omega) (by decide), ra.2.2.2.1, vp_in_nI (by omega) (by decide), vp_in_nI (by omega) (by decide), re.2.1, vp_in_nI (by omega) (by decide), re.2.2.2.1, vp_in_nI (by omega) (by decide), fun z => ?_, fun z => ?_⟩
              · rw [if_neg (fun q => z q.2)] at hcnt
                rw [Int32.add_zero, nI_1]
                exact ih2 (e + 1) k (by omega) (by omega) (by omega) (by rw [if_pos wa]; exact hcnt)
              · rw [if_pos ⟨we, z⟩] at hcnt
                rw [nI_1, nI_1]
                exact ih2 (e + 1) (k + 1) (by omega) (by omega) (by omega) (by rw [if_pos wa]; exact hcnt)
            · rw [if_neg (fun q => we q.1)] at hcnt
              rw [Int32.add_zero, nI_1]
              exact ih2 (e + 1) k (by omega) (by omega) (by omega) (by rw [if_pos wa]; exact hcnt)
          · rw [if_neg wa] at hcnt
            rw [Int32.add_zero, nI_1]
            exact ih2 (e + 1) k (by omega) (by omega) (by omega) (by rw [if_neg wa]; exact hcnt)
      refine inner _ 0 0 rfl (by omega) (by omega) ?_
      split
      · rfl
      · rfl
  exact key _ 0 0 rfl (by omega) (by omega) rfl
def tX (b : Option (Nat × Nat × Nat)) (x4 x5 : Int32) : Prop := match b with
  | none => x4 = M1 ∧ x5 = nI 100000000
  | some r => x4 = nI (64 * r.1 + r.2.1) ∧ x5 = nI r.2.2
def tKx (P : Pl) (b : Option (Nat × Nat × Nat)) : Prop := ∀ r, b = some r → r.1 ≤ 30 ∧ isC P r.2.1 ∧ r.2.2 ≤ 7
theorem tlB_some {P : Pl} {s : St} {t set d : Nat} : ∀ (l : List Nat) (b : Option (Nat × Nat × Nat)), (b ≠ none ∨ l ≠ []) → l.foldl (tlB P s t set d) b ≠ none
  | [], b, h => by
    rcases h with h | h
    · exact h
    · exact absurd rfl h
  | c :: l, b, _ => by
    rw [List.foldl_cons]
    refine tlB_some l _ (Or.inl ?_)
    unfold tlB
    split
    · simp
    · split <;> simp
theorem tlS_some {P : Pl} {s : St} {t set : Nat} (hc : cls P ≠ []) (hd : 0 < dEnd s) : tlS P s t set ≠ none := by
  have key : ∀ (l : List Nat) (b : Option (Nat × Nat × Nat)), (b ≠ none ∨ l ≠ []) → l.foldl (fun b d => (cls P).foldl (tlB P s t set d) b) b ≠ none := by
    intro l
    induction l with
    | nil =>
      intro b h
      rcases h with h | h
      · exact h
      · exact absurd rfl h
    | cons d l ih =>
      intro b _
      rw [List.foldl_cons]
      exact ih _ (Or.inl (tlB_some _ _ (Or.inr hc)))
  unfold tlS
  refine key _ none (Or.inr (fun z => ?_))
  have := congrArg List.length z
  rw [List.length_range] at this
  unfold dEnd at hd
  simp at this
  omega
theorem xq_tells {ν : XN} {Z : Wd} {d : Nat} {x y : Int32} {Q : Int32 → XN → Prop} (hd : DP ≤ d) (h : xAll ν Z) (hQ : ∀ ν', xAll ν' Z → Q (opTells Z x y) ν') : xw_X0_tells (VTA d).1 (VTA d).2 x y ν Q := by
  have hnp := h.1.np
  have hz9 := h.1.2.2.1
  unfold xw_X0_tells
  unfold opTells at hQ
  refine xl_who hd h (fun t ν1 t1 t2 t3 hA1 hW1 => ?_) (fun t1 => ?_)
  · subst t3
    have hlt := setOf_lt (whoOK (wP Z) (wS Z) (wR Z) t) (nP (wP Z))
    have h128 := p2_le hnp.1
    have hP0 : setOf (whoOK (wP Z) (wS Z) (wR Z) t) (nP (wP Z)) ≠ 0 → plOK (wP Z) := by
      intro hz
      rcases h.1.1 with w | w
      · exact w
      · exfalso
        apply hz
        rw [show nP (wP Z) = 0 by rw [w]; decide]; rfl
    generalize hset : setOf (whoOK (wP Z) (wS Z) (wR Z) t) (nP (wP Z)) = set at *
    rw [i_0, nI_leI (by omega) (by omega)]
    refine ⟨fun z => ?_, fun z => ?_⟩
    · have h9 := hQ ν1 hA1
      have hz : set = 0 := by omega
      cases hy : ix y 3 with
      | none => simp only [t1, hy] at h9; exact h9
      | some w => simp only [t1, hy, hset] at h9; rw [if_pos hz] at h9; exact h9
    · have hP := hP0 (by omega)
      have hfx := hA1.2.1.2.2.2.2.2.2.2.2
      obtain ⟨b1, hb1, -⟩ := hA1.pb
      refine xl_is (n := 3) (by decide) (fun w w1 w2 w3 => ⟨fun _ => ?_, fun q => absurd q (by decide)⟩) (fun w1 => ⟨fun q => absurd rfl q, fun _ => ?_⟩)
      · subst w3
        have h9 := hQ ν1 hA1
        simp only [t1, w1, hset] at h9
        rw [if_neg (by omega)] at h9
        unfold xw_X0_tells_32
        intro X hX
        have hcne : cls (wP Z) ≠ [] := fun q => by
          have hm : (0 : Nat) ∈ cls (wP Z) := (mem_cls hP).mpr ⟨by have := hP.1; omega, by have := hP.2.1; omega⟩
          rw [q] at hm; cases hm
        have hde : 0 < dEnd (wS Z) := by unfold dEnd; omega
        have days : ∀ m D (bb : Option (Nat × Nat × Nat)) (x4 x5 : Int32), dEnd (wS Z) - D = m → D ≤ dEnd (wS Z) → tX bb x4 x5 → tKx (wP Z) bb → ((List.range (dEnd (wS Z))).drop D).foldl (fun b d => (cls (wP Z)).foldl (tlB (wP Z) (wS Z) t set d) b) bb = tlS (wP Z) (wS Z) t set → X (nI w) (nI set) x4 x5 (nI D) ν1 := by
          intro m
          induction m with
          | zero =>
            intro D bb x4 x5 hm hD hx hk he
            refine hX _ _ _ _ _ _ ?_
            refine xl_isAhead (lo := 0) (hi := 30) (s := wS Z) hb1 hA1.2.1.2.1.1.2.1 h.1.2.1.1 (by decide) (by decide) (fun j j1 j2 j3 j4 j5 j6 => ?_) (fun j1 => ⟨fun _ => ?_, fun z => absurd rfl z⟩)
            · exfalso
              unfold dEnd at hm hD
              rw [nI_eq (by omega) (by omega)] at j5
              omega
            · rw [rng_end (by omega)] at he
              have he : bb = tlS (wP Z) (wS Z) t set := he
              rw [← he] at h9
              cases bb with
              | none => exact absurd he.symm (tlS_some hcne hde)
              | some r =>
                obtain ⟨k1, k2, k3⟩ := hk r rfl
                have hcl := isC_lt hP k2
                simp only [tX] at hx
                simp only [] at h9
                rw [hx.1, hx.2]
                have e1 : nI (64 * r.1 + r.2.1) / 64 = nI r.1 := by
                  rw [i_64, pk_div (by omega) (by decide) (by decide)]; congr 1; omega
                have e2 : nI (64 * r.1 + r.2.1) - nI (64 * r.1 + r.2.1) / 64 * 64 = nI r.2.1 := by
                  rw [e1, i_64, pk_mul, pk_sub (by omega)]; congr 1; omega
                rw [e2, e1, i_0, i_1, nI_eq (by omega) (by omega), nI_eq (by omega) (by omega)]
                refine ⟨fun q => ⟨fun q2 => ?_, fun q2 => ?_⟩, fun q => ?_⟩
                · rw [if_neg q, if_neg q2] at h9; exact h9
                · rw [if_neg q, if_pos q2] at h9; exact h9
                · rw [if_pos q] at h9; exact h9
          | succ m ih =>
            intro D bb x4 x5 hm hD hx hk he
            have hD2 : D < dEnd (wS Z) := by omega
            have hD31 : D < 31 ∧ zD (wS Z) + D ≤ 999 := by unfold dEnd at hD2; omega
            rw [rng_at hD2, List.foldl_cons] at he
            refine hX _ _ _ _ _ _ ?_
            refine xl_isAhead (lo := 0) (hi := 30) (s := wS Z) hb1 hA1.2.1.2.1.1.2.1 h.1.2.1.1 (by decide) (by decide) (fun j j1 j2 j3 j4 j5 j6 => ⟨fun z => absurd z (by decide), fun _ => ?_⟩) (fun j1 => ?_)
            · unfold xw_X0_tells_47
              intro Y hY
              have cells : ∀ n k (bb : Option (Nat × Nat × Nat)) (x4 x5 : Int32), 64 - k = n → k ≤ 64 → tX bb x4 x5 → tKx (wP Z) bb → ((List.range (dEnd (wS Z))).drop (D + 1)).foldl (fun b d => (cls (wP Z)).foldl (tlB (wP Z) (wS Z) t set d) b) ((((List.range 64).drop k).filter (fun c => decide (c % 8 < plC (wP Z) ∧ c / 8 < plR (wP Z)))).foldl (tlB (wP Z) (wS Z) t set D) bb) = tlS (wP Z) (wS Z) t set → Y (nI w) (nI set) x4 x5 (nI D) (nI k) ν1 := by
                intro n
                induction n with
                | zero =>
                  intro k bb x4 x5 hn hk2 hx hk he
                  rw [List.drop_eq_nil_of_le (by simp; omega)] at he
                  refine hY _ _ _ _ _ _ _ ⟨fun _ => ?_, fun z => absurd ((nI_leI (by omega) (by omega)).mpr (by omega) : nI 64 ≤ nI k) z⟩
                  rw [nI_1]
                  exact ih (D + 1) bb x4 x5 (by omega) (by omega) hx hk he
                | succ n ihn =>
                  intro k bb x4 x5 hn hk2 hx hk he
                  rw [List.drop_eq_getElem_cons (by simp; omega), List.getElem_range, List.filter_cons] at he
                  refine hY _ _ _ _ _ _ _ ⟨fun z => absurd z (le_no 64 rfl (by decide) (by omega)), fun _ => ?_⟩
                  have stay : x5 ≤ nI 100000000 := by
                    cases bb with
                    | none => rw [hx.2]; exact Int32.le_refl _
                    | some r =>
                      have := (hk r rfl).2.2
                      rw [hx.2, nI_leI (by omega) (by omega)]; omega
                  refine xl_isCellN hb1 (by omega) (fun hc => ⟨fun q => absurd q (by decide), fun _ => ?_⟩) (fun hc => ⟨fun _ => ?_, fun q => absurd rfl q⟩)
                  · rw [if_pos (by rw [decide_eq_true_iff]; exact hc), List.foldl_cons] at he
                    refine xl_mostBy hb1 hP h.1.2.1 hfx hW1 (by omega) hD2 hc ?_
                    have hml := mostS_le (nP (wP Z)) set (vS (wP Z) (wS Z) t D k)
                    unfold xw_X0_tells_78 xw_X0_tells_104
                    rw [i_64, pk_mul, nI_add, nI_1]
                    cases bb with
                    | none =>
                      rw [hx.2, nI_ltI (by omega) (by omega)]
                      refine ⟨fun _ => ihn (k + 1) (some (D, k, mostS (nP (wP Z)) set (vS (wP Z) (wS Z) t D k))) _ _ (by omega) (by omega) ⟨rfl, rfl⟩ (fun r hr => by cases hr; exact ⟨by omega, hc, Nat.le_trans hml hnp.1⟩) he, fun z => by omega⟩
                    | some r =>
                      have hr7 := (hk r rfl).2.2
                      rw [hx.2, nI_ltI (by omega) (by omega)]
                      simp only [tlB] at he
                      refine ⟨fun z => ?_, fun z => ?_⟩
                      · rw [if_pos z] at he
                        exact ihn (k + 1) (some (D, k, mostS (nP (wP Z)) set (vS (wP Z) (wS Z) t D k))) _ _ (by omega) (by omega) ⟨rfl, rfl⟩ (fun r hr => by cases hr; exact ⟨by omega, hc, Nat.le_trans hml hnp.1⟩) he
                      · rw [if_neg z] at he
                        exact ihn (k + 1) (some r) _ _ (by omega) (by omega) ⟨hx.1, rfl⟩ hk he
                  · rw [if_neg (by rw [decide_eq_true_iff]; exact hc)] at he
                    unfold xw_X0_tells_78 xw_X0_tells_104
                    rw [nI_1]
                    refine ⟨fun z => absurd z ?_, fun _ => ihn (k + 1) bb x4 x5 (by omega) (by omega) hx hk he⟩
                    rw [i_100000000, Int32.not_lt]; exact stay
              exact cells 64 0 bb x4 x5 rfl (by decide) hx hk he
            · exfalso
              unfold ahd at j1
              rw [ix_lt (by omega) (by decide)] at j1
              simp only [] at j1
              rw [if_pos ⟨by have := hP.1; omega, by omega, by omega⟩] at j1
              cases j1
        exact days _ 0 none _ _ rfl (Nat.zero_le _) ⟨rfl, rfl⟩ (fun r hr => by cases hr) rfl
      · have h9 := hQ ν1 hA1
        simp only [t1, w1] at h9
        exact h9
  · have h9 := hQ ν h
    simp only [t1] at h9
    exact ⟨fun _ => h9, fun z => absurd (by decide) z⟩
