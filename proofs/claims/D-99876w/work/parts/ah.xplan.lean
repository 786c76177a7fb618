/-! THE SYSTEM: plans -/
def PLS (d : Nat) : Nat → Int32 → Int32 → Int32 → Int32 → Int32 → XN → (Int32 → XN → Prop) → Prop
  | 0 => fun _ _ _ _ _ _ _ => False
  | m + 1 => fun x1 x2 x3 x4 x5 ν Q => xw_X0_plans (VTA d).1 (VTA d).2 (PLS d m) x1 x2 x3 x4 x5 ν Q
theorem planF_len {P : Pl} {s0 : St} {u hh st : Nat} : ∀ (n : Nat) (s : St) (l : List Nat), planF P s0 u hh st n s = some l → l.length = n ∧ ∀ i ∈ l, i < nP P * nT P
  | 0, s, l, h => by
    simp only [planF] at h
    split at h
    · cases h; exact ⟨rfl, fun i hi => by cases hi⟩
    · cases h
  | n + 1, s, l, h => by
    simp only [planF] at h
    obtain ⟨i, hi, h2⟩ := List.exists_of_findSome?_eq_some h
    cases h3 : planF P s0 u hh st n (asI P s i) with
    | none => rw [h3] at h2; cases h2
    | some l' =>
      rw [h3] at h2
      cases h2
      obtain ⟨a, b⟩ := planF_len n _ l' h3
      refine ⟨by simp [a], fun j hj => ?_⟩
      rcases List.mem_cons.mp hj with rfl | hj
      · exact List.mem_range.mp hi
      · exact b j hj
/-- the states up to this one stay -/
def KpS (k : Nat) (σ σ' : FS) : Prop := ∀ o, 10 ≤ o → o ≤ 12 + k → (∀ P s, xSt σ o P s → xSt σ' o P s) ∧ fI σ' o 2 = fI σ o 2
theorem KpS.refl (k : Nat) (σ : FS) : KpS k σ σ := fun _ _ _ => ⟨fun _ _ h => h, rfl⟩
theorem KpS.trans {k : Nat} {σ σ' σ'' : FS} (h : KpS k σ σ') (g : KpS k σ' σ'') : KpS k σ σ'' := fun o h1 h2 => ⟨fun P s hs => (g o h1 h2).1 P s ((h o h1 h2).1 P s hs), (g o h1 h2).2.trans (h o h1 h2).2⟩
theorem KpS.less {k j : Nat} {σ σ' : FS} (h : KpS k σ σ') (hj : j ≤ k) : KpS j σ σ' := fun o h1 h2 => h o h1 (by omega)
theorem XFr.kp {k o : Nat} {σ σ' : FS} (g : XFr o σ σ') (ho : 12 + k < o) : KpS k σ σ' := fun o' h1 h2 => ⟨fun P s hs => hs.fr g (by omega), g.1 o' 2 (by omega)⟩
theorem XA.kp {k a : Nat} {σ σ' : FS} (g : XA (fun x => x = a) σ σ') (ha : a < 9000) : KpS k σ σ' := by
  have x : X0 [] [a] σ σ' := ⟨fun _ _ _ => by rw [g.1], fun b hb => g.2.2.1 b (fun z => hb (by rw [z]; exact List.mem_singleton.mpr rfl)), g.2.1, g.2.2.2.2.2⟩
  exact fun o h1 h2 => ⟨fun P s hs => x.st (fun b hb => by rw [List.mem_singleton.mp hb]; exact ha) h1 hs, by rw [g.1]⟩
def asC (P : Pl) (i : Nat) : Nat := 8 * (i / nT P) + i % nT P
theorem xl_plans {Z : Wd} {d u hh st n : Nat} (hd : DP ≤ d) (hP : plOK (wP Z)) (hu : isC (wP Z) u) (hst : isC (wP Z) st) (hh9 : hh ≤ 99) (hn : n ≤ 3) (hZ : stOK (wP Z) (wS Z)) : ∀ (r k m : Nat) (s : St) (ν : XN) (Q : Int32 → XN → Prop), k + r = n → r < m → xAll ν Z → xSt ν.1 (12 + k) (wP Z) s → fI ν.1 (12 + k) 2 = nI 0 → (∀ ν' l, planF (wP Z) (wS Z) u hh st r s = some l → xAll ν' Z → (∀ (i : Nat) x, l[i]? = some x → fA ν'.1 3 (k + i) = nI (asC (wP Z) x)) → (∀ i, i < k → fA ν'.1 3 i = fA ν.1 3 i) → Q (nI 1) ν') → (∀ ν', planF (wP Z) (wS Z) u hh st r s = none → xAll ν' Z → KpS k ν.1 ν'.1 → (∀ i, i < k → fA ν'.1 3 i = fA ν.1 3 i) → Q (nI 0) ν') → PLS d m (nI u) (nI hh) (nI st) (nI k) (nI n) ν Q := by
  have hul := isC_lt hP hu
  have hsl := isC_lt hP hst
  have h7 := hP.2.2.2.2.1
  have h5 := hP.2.2.2.1
  have h35 := nn_le hP
  intro r
  induction r with
  | zero =>
    intro k m s ν Q hk hm hA hs hz hy hno
    obtain ⟨m, rfl⟩ : ∃ m', m = m' + 1 := ⟨m - 1, by omega⟩
    obtain ⟨k1, k2, k3⟩ := xk_h (o := 12 + k) (by omega) (by omega)
    obtain ⟨j1, j2, j3⟩ := xk_h (o := 10) (by decide) (by decide)
    have hfx := hA.2.1.2.2.2.2.2.2.2.2
    have g1 := hs.1.2.1 u hu
    have g2 := hs.1.2.1 st hst
    have g3 := hZ.2.1 st hst
    have hs0 := hA.2.1.2.1.1
    have hkn : k = n := by omega
    subst hkn
    show xw_X0_plans _ _ _ _ _ _ _ _ _ _
    unfold xw_X0_plans
    refine ⟨fun z => absurd rfl z, fun _ => ?_⟩
    rw [nI_clamp (show k < 2 ^ 31 by omega), hfx.1 k (by omega), k1, k3, j1, j3, nI_clamp (show u < 2 ^ 31 by omega), nI_clamp (show st < 2 ^ 31 by omega), hs.2.2.2.1 u hu, hs.2.2.2.1 st hst, hs0.2.2.2.1 st hst, nI_ltI (by omega) (by omega), nI_eq (by omega) (by omega)]
    have hp : planF (wP Z) (wS Z) u hh st 0 s = if soS (wS Z) u hh st s = true then some [] else none := rfl
    have no : ¬ (hh ≤ zH s u ∧ zH s st = zH (wS Z) st) → Q (nI 0) ν := fun w => hno ν (by rw [hp]; unfold soS; rw [decide_eq_false w]; rfl) hA (KpS.refl _ _) (fun _ _ => rfl)
    refine ⟨vp_in_nI (by omega) (by decide), xoc_st (by omega) (by omega), k2, vp_in_nI (by omega) (by decide), fun z => no (by omega), fun z => ⟨vp_in_nI (by omega) (by decide), k2, vp_in_nI (by omega) (by decide), j2, vp_in_nI (by omega) (by decide), fun z2 => no (fun w => z2 w.2), fun z2 => ?_⟩⟩
    refine hy ν [] ?_ hA (fun i x hx => by simp at hx) (fun _ _ => rfl)
    rw [hp]; unfold soS; rw [decide_eq_true ⟨by omega, z2⟩]; rfl
  | succ r ih =>
    intro k m s ν Q hk hm hA hs hz hy hno
    obtain ⟨m, rfl⟩ : ∃ m', m = m' + 1 := ⟨m - 1, by omega⟩
    show xw_X0_plans _ _ _ _ _ _ _ _ _ _
    unfold xw_X0_plans
    refine ⟨fun _ => ?_, fun z => ?_⟩
    · unfold xw_X0_plans_56
      intro X hX
      have hp : planF (wP Z) (wS Z) u hh st (r + 1) s = (List.range (nP (wP Z) * nT (wP Z))).findSome? (fun i => (planF (wP Z) (wS Z) u hh st r (asI (wP Z) s i)).map (fun l => i :: l)) := rfl
      have key : ∀ j i (ν1 : XN), nP (wP Z) * nT (wP Z) - i = j → i ≤ nP (wP Z) * nT (wP Z) → xAll ν1 Z → KpS k ν.1 ν1.1 → (∀ i', i' < k → fA ν1.1 3 i' = fA ν.1 3 i') → ((List.range (nP (wP Z) * nT (wP Z))).drop i).findSome? (fun i => (planF (wP Z) (wS Z) u hh st r (asI (wP Z) s i)).map (fun l => i :: l)) = planF (wP Z) (wS Z) u hh st (r + 1) s → X (nI u) (nI hh) (nI st) (nI k) (nI n) (nI i) ν1 := by
        intro j
        induction j with
        | zero =>
          intro i ν1 hj hi hA1 hK1 h31 he
          obtain ⟨b1, hb1, -⟩ := hA1.pb
          refine hX _ _ _ _ _ _ _ (xl_people hb1 (xl_topics hb1 ?_))
          rw [pk_mul, nI_leI (by omega) (by omega)]
          refine ⟨fun _ => hno ν1 ?_ hA1 hK1 h31, fun z => absurd (by omega) z⟩
          rw [← he, rng_end (by omega)]; rfl
        | succ j ihj =>
          intro i ν1 hj hi hA1 hK1 h31 he
          obtain ⟨b1, hb1, -⟩ := hA1.pb
          have hfx := hA1.2.1.2.2.2.2.2.2.2.2
          have hT0 : 0 < nT (wP Z) := by
            rcases Nat.eq_zero_or_pos (nT (wP Z)) with z | z
            · rw [z, Nat.mul_zero] at hj; omega
            · exact z
          have hip : i / nT (wP Z) < nP (wP Z) := Nat.div_lt_of_lt_mul (by rw [Nat.mul_comm]; omega)
          have hit : i % nT (wP Z) < nT (wP Z) := Nat.mod_lt _ hT0
          rw [rng_at (by omega), List.findSome?_cons] at he
          have hs1 := (hK1 (12 + k) (by omega) (by omega)).1 _ _ hs
          refine hX _ _ _ _ _ _ _ (xl_people hb1 (xl_topics hb1 ?_))
          rw [pk_mul, nI_leI (by omega) (by omega)]
          refine ⟨fun z => by omega, fun _ => ?_⟩
          rw [i_1, nI_add, nI_clamp (show k + 1 < 2 ^ 31 by omega), nI_clamp (show k < 2 ^ 31 by omega), hfx.1 k (by omega), hfx.1 (k + 1) (by omega)]
          refine ⟨vp_in_nI (by omega) (by decide), vp_in_nI (by omega) (by decide), xoc_st (by omega) (by omega), ?_⟩
          refine xl_copy (by omega) (by omega) (by omega) (by omega) (by omega) hs1 (hA1.2.1.2.2.1 _ (by omega) (by omega)) hA1.cl h7 (fun ν2 g2 e2 eB2 eP2 hs2 hz2 => ?_)
          have hA2 := hA1.fr g2 e2 ⟨by omega, by omega⟩ hs2.2.2.2.2.2.1
          obtain ⟨b2, hb2, -⟩ := hA2.pb
          refine ⟨vp_in_nI (by omega) (by decide), xl_topics hb2 ⟨?_, xl_topics hb2 ⟨?_, ?_⟩⟩⟩
          · rw [i_0, nI_eq (by omega) (by omega)]; omega
          · rw [i_0, nI_eq (by omega) (by omega)]; omega
          rw [eP2, hfx.1 (k + 1) (by omega)]
          refine ⟨xoc_st (by omega) (by omega), ?_⟩
          have e1 : nI i / nI (nT (wP Z)) = nI (i / nT (wP Z)) := pk_div (by omega) hT0 (by omega)
          have e3 : nI i - nI i / nI (nT (wP Z)) * nI (nT (wP Z)) = nI (i % nT (wP Z)) := by rw [e1, pk_mul, nI_remL]
          rw [e3, e1]
          refine xl_asked (sil := 0) (by omega) (by omega) (hA2.cx hd hb2 hP) hs2 hz2 (by decide) hip hit (fun ν3 g3 e33 hs3 => ?_)
          have hA3 := hA2.fr g3.1 e33 ⟨by omega, by omega⟩ hs3.2.2.2.2.2.1
          obtain ⟨b3, hb3, -⟩ := hA3.pb
          refine xl_topics hb3 ⟨?_, xl_topics hb3 ⟨?_, vp_in_nI (by omega) (by decide), ?_⟩⟩
          · rw [i_0, nI_eq (by omega) (by omega)]; omega
          · rw [i_0, nI_eq (by omega) (by omega)]; omega
          rw [e3, e1, i_8, pk_mul, nI_add]
          intro ν4 e4
          have gx : XA (fun x => x = 3) ν3.1 ν4.1 := by rw [e4]; exact XA.sA _ _ _ rfl
          have ex : ν4.2 = ν3.2 := by rw [e4]
          have v4 : fA ν4.1 3 k = nI (asC (wP Z) i) := by rw [e4]; show fA (sA ν3.1 3 k _) 3 k = _; rw [fA_sA, if_pos ⟨rfl, rfl⟩]; rfl
          have o4 : ∀ i', i' < k → fA ν4.1 3 i' = fA ν.1 3 i' := fun i' hi' => by
            rw [e4]; show fA (sA ν3.1 3 k _) 3 i' = _
            rw [fA_sA, if_neg (by omega), g3.1.2.1 3 (by omega), g2.2.1 3 (by omega)]; exact h31 i' hi'
          have hA4 := hA3.xa gx ex (by decide) (by decide)
          have hK34 : KpS (k + 1) ν3.1 ν4.1 := gx.kp (by decide)
          have hs4 : xSt ν4.1 (12 + (k + 1)) (wP Z) (asI (wP Z) s i) := (hK34 _ (by omega) (by omega)).1 _ _ hs3
          have hz4 : fI ν4.1 (12 + (k + 1)) 2 = nI 0 := by rw [(hK34 _ (by omega) (by omega)).2]; exact g3.2.trans hz2
          have hK4 : KpS k ν.1 ν4.1 := ((hK1.trans (g2.kp (by omega))).trans (g3.1.kp (by omega))).trans (hK34.less (by omega))
          clear e4
          refine ih (k + 1) m (asI (wP Z) s i) ν4 _ (by omega) (by omega) hA4 hs4 hz4 (fun ν5 l hl hA5 hl5 hk5 => ⟨fun z => absurd z (by decide), fun _ => ?_⟩) (fun ν5 hl hA5 hK5 hk5 => ⟨fun _ => ?_, fun z => absurd rfl z⟩)
          · rw [hl] at he
            refine hy ν5 (i :: l) he.symm hA5 (fun i' x hx => ?_) (fun i' hi' => by rw [hk5 i' (by omega)]; exact o4 i' hi')
            cases i' with
            | zero =>
              simp only [List.getElem?_cons_zero, Option.some.injEq] at hx
              subst hx
              rw [Nat.add_zero, hk5 k (by omega)]; exact v4
            | succ i' =>
              simp only [List.getElem?_cons_succ] at hx
              rw [show k + (i' + 1) = k + 1 + i' by omega]
              exact hl5 i' x hx
          · rw [hl] at he
            rw [nI_add]
            exact ihj (i + 1) ν5 (by omega) (by omega) hA5 (hK4.trans (hK5.less (by omega))) (fun i' hi' => by rw [hk5 i' (by omega)]; exact o4 i' hi') he
      exact key _ 0 ν rfl (Nat.zero_le _) hA (KpS.refl _ _) (fun _ _ => rfl) hp.symm
    · rw [nI_eq (by omega) (by omega)] at z; omega
theorem xq_plan {ν : XN} {Z : Wd} {d m : Nat} {x h y k : Int32} {Q : Int32 → XN → Prop} (hd : DP ≤ d) (hm : 4 ≤ m) (hA : xAll ν Z) (hQ : ∀ ν', xAll ν' Z → Q (opPlan Z x h y k) ν') : xw_X0_plan (VTA d).1 (VTA d).2 (PLS d m) x h y k ν Q := by
  obtain ⟨b, hb, -⟩ := hA.pb
  have hnp := hA.1.np
  unfold xw_X0_plan
  unfold opPlan at hQ
  refine xl_isCell hb (fun u u1 u2 u3 u4 => ⟨fun q => absurd q (by decide), fun _ => ?_⟩) (fun u1 => ⟨fun _ => ?_, fun q => absurd rfl q⟩)
  · refine xl_isCell hb (fun st s1 s2 s3 s4 => ⟨fun q => absurd q (by decide), fun _ => ?_⟩) (fun s1 => ⟨fun _ => ?_, fun q => absurd rfl q⟩)
    · refine xl_is (n := 100) (by decide) (fun hh h1 h2 h3 => ⟨fun _ => ?_, fun z => absurd z (by decide)⟩) (fun h1 => ⟨fun z => absurd rfl z, fun _ => ?_⟩)
      · subst u4 s4 h3
        simp only [u1, s1, h1] at hQ
        have hP : plOK (wP Z) := hA.okc (p := u % 8) u2.1
        have hfx := hA.2.1.2.2.2.2.2.2.2.2
        rw [show Int32.toNatClampNeg 0 = 0 from rfl, hfx.1 0 (by decide)]
        refine ⟨vp_in_nI (by decide) (by decide), rfl, ?_⟩
        refine xl_copy (by decide) (by decide) (by decide) (by decide) (by decide) hA.2.1.2.1.1 (hA.2.1.2.2.1 12 (by decide) (by decide)) hA.cl hnp.1 (fun ν1 g1 e1 eB1 eP1 hs1 hz1 => ?_)
        have hA1 := hA.fr g1 e1 ⟨by decide, by decide⟩ hs1.2.2.2.2.2.1
        unfold xw_X0_plan_45
        intro X hX
        have key : ∀ j n (ν2 : XN), 4 - n = j → n ≤ 4 → xAll ν2 Z → xSt ν2.1 12 (wP Z) (wS Z) → fI ν2.1 12 2 = nI 0 → (∀ i, i < n → planF (wP Z) (wS Z) u hh st i (wS Z) = none) → X (nI u) (nI hh) (nI st) k (nI n) ν2 := by
          intro j
          induction j with
          | zero =>
            intro n ν2 hj hn hA2 hs2 hz2 hno
            refine hX _ _ _ _ _ _ ⟨fun _ => ?_, fun z => absurd ((nI_ltI (by omega) (by omega)).mpr (by omega) : nI 3 < nI n) z⟩
            have e : planR (wP Z) (wS Z) u hh st = none := by
              unfold planR
              rw [hno 0 (by omega), hno 1 (by omega), hno 2 (by omega), hno 3 (by omega)]
            have h9 := hQ ν2 hA2
            rw [e] at h9
            exact h9
          | succ j ih =>
            intro n ν2 hj hn hA2 hs2 hz2 hno
            refine hX _ _ _ _ _ _ ⟨fun z => ?_, fun _ => ?_⟩
            · rw [i_3, nI_ltI (by omega) (by omega)] at z; omega
            · refine xl_plans (n := n) hd hP u2 s2 (by omega) (by omega) hA.1.2.1 n 0 m (wS Z) ν2 _ (by omega) (by omega) hA2 hs2 hz2 (fun ν3 l hl hA3 hl3 _ => ⟨fun z => absurd z (by decide), fun _ => ?_⟩) (fun ν3 hl hA3 hK3 _ => ⟨fun _ => ?_, fun z => absurd rfl z⟩)
              · obtain ⟨len, lall⟩ := planF_len _ _ _ hl
                have e : planR (wP Z) (wS Z) u hh st = some l := by
                  unfold planR
                  rcases (show n = 0 ∨ n = 1 ∨ n = 2 ∨ n = 3 by omega) with rfl | rfl | rfl | rfl
                  · rw [hl]
                  · rw [hno 0 (by omega), hl]
                  · rw [hno 0 (by omega), hno 1 (by omega), hl]
                  · rw [hno 0 (by omega), hno 1 (by omega), hno 2 (by omega), hl]
                have h9 := hQ ν3 hA3
                rw [e] at h9
                simp only [] at h9
                refine ⟨fun z => ?_, fun z => ?_⟩
                · rw [if_neg (show ¬ k = M1 from z), len] at h9
                  refine xl_is (n := n) (nIm1_i (by omega)) (fun i i1 i2 i3 => ⟨fun q => absurd q (by decide), fun _ => ?_⟩) (fun i1 => ⟨fun _ => ?_, fun q => absurd rfl q⟩)
                  · subst i3
                    have hx := List.getElem?_eq_getElem (show i < l.length by omega)
                    simp only [i1, hx] at h9
                    rw [nI_clamp (by omega)]
                    refine ⟨vp_in_nI (by omega) (by decide), ?_⟩
                    have := hl3 i _ hx
                    rw [Nat.zero_add] at this
                    rw [this]; exact h9
                  · simp only [i1] at h9; exact h9
                · rw [if_pos (show k = M1 from z), len] at h9; exact h9
              · rw [nI_1]
                have hk := hK3 12 (by decide) (by decide)
                refine ih (n + 1) ν3 (by omega) (by omega) hA3 (hk.1 _ _ hs2) (hk.2.trans hz2) (fun i hi => ?_)
                by_cases w : i = n
                · rw [w]; exact hl
                · exact hno i (by omega)
        exact key 4 0 ν1 rfl (by decide) hA1 hs1 hz1 (fun i hi => by omega)
      · simp only [u1, s1, h1] at hQ; exact hQ ν hA
    · simp only [u1, s1] at hQ; exact hQ ν hA
  · simp only [u1] at hQ; exact hQ ν hA
