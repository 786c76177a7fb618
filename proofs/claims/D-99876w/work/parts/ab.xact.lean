/-! THE SYSTEM: acts -/
theorem woOK.putU {Z : Wd} {u : List St} (h : woOK Z) (hl : u.length ≤ 20) (hu : ∀ s ∈ u, s = wS Z ∨ s ∈ wU Z) : woOK (putU Z u) := by
  obtain ⟨h1, h2, h3, h4, h5, h6, h7, h8, h9, h10, h11, h12⟩ := h
  refine ⟨h1, h2, h3, h4, h5, h6, h7, hl, fun s hs => ?_, h10, h11, h12⟩
  rcases hu s hs with rfl | z
  · exact ⟨h2, h3⟩
  · exact h9 s z
theorem xl_rem62 {ν : XN} {Z : Wd} {Q : XN → Prop} (h : xAll ν Z) (hl : (wU Z).length < 20) (hQ : ∀ ν', xAll ν' (putU Z (wS Z :: wU Z)) → Q ν') : xw_X0_remembers_62 ν Q := by
  obtain ⟨h1, h2, h3⟩ := h
  have hcl := xAll.cl ⟨h1, h2, h3⟩
  obtain ⟨q1, q2, q3, q4, q5, q6, q7⟩ := h3
  obtain ⟨⟨b, b1, b2⟩, c2, c3, c4, c5, c6⟩ := h2
  obtain ⟨o1, o2⟩ := c4.1 (wU Z).length hl
  unfold xw_X0_remembers_62
  rw [q5, nI_clamp (by omega)]
  refine ⟨vp_in_nI hl (by decide), xoc_st (by omega) (by omega), ?_⟩
  refine xl_copy (by omega) (by omega) (by decide) (by decide) (by omega) c2.1 (c3 _ (by omega) (by omega)) hcl h1.np.1 (fun ν1 g e eB eP hs hz => ?_)
  have g0 : ∀ k, fI ν1.1 0 k = fI ν.1 0 k := fun k => g.1 0 k (by omega)
  have ga : ∀ a, a < 100 → fA ν1.1 a = fA ν.1 a := fun a ha => g.2.1 a (by omega)
  intro ν2 e2
  subst e2
  rw [g0, q5, i_1, nI_add]
  have x : X0 [21] [] ν1.1 (sI ν1.1 0 21 (nI ((wU Z).length + 1))) := X0.sI _ _ (by decide)
  have hu : (wS Z :: wU Z).length ≤ 20 := by simp only [List.length_cons]; omega
  refine hQ _ ⟨h1.putU hu (fun s hs => List.mem_cons.mp hs), X0.co2 (ν := ν1) x (by decide) hu ⟨⟨b, by rw [g.2.2.2.2.2]; exact b1, by rw [e]; exact b2⟩, ⟨c2.1.fr g (by omega), by rw [g.1 10 2 (by omega)]; exact c2.2⟩, fun o' g1 g2 => ?_, by unfold xKe; rw [eP]; exact c4, fun i s' hi => ?_, c6.e g.2.2.2.2.2 e (fun a _ _ => by rw [eP])⟩, ?_⟩
  · unfold xRk; rw [eP]; exact c3 o' g1 g2
  · rw [eP]
    have hi : (wS Z :: wU Z)[i]? = some s' := hi
    cases i with
    | zero =>
      simp only [List.getElem?_cons_zero, Option.some.injEq] at hi
      subst hi
      simp only [List.length_cons, Nat.add_sub_cancel, Nat.sub_zero]
      exact hs
    | succ i =>
      simp only [List.getElem?_cons_succ] at hi
      have hil := (List.getElem?_eq_some_iff.mp hi).1
      have h9 := c5 i s' hi
      have e9 : (wS Z :: wU Z).length - 1 - (i + 1) = (wU Z).length - 1 - i := by simp only [List.length_cons]; omega
      show xSt ν1.1 (fP ν.1 10 ((wS Z :: wU Z).length - 1 - (i + 1))) (wP Z) s'
      rw [e9]
      exact h9.fr g (fun q => by have := c4.2 _ _ (by omega) hl q; omega)
  · refine ⟨⟨by rw [x.1 0 2 (Or.inr (by decide)), g0]; exact q1.1, by rw [x.2.1 0 (by decide), ga 0 (by decide)]; exact q1.2⟩, by rw [x.1 0 3 (Or.inr (by decide)), x.1 0 4 (Or.inr (by decide)), g0, g0]; exact q2, by rw [x.2.1 1 (by decide), ga 1 (by decide)]; exact q3, ⟨by rw [x.1 0 18 (Or.inr (by decide)), g0]; exact q4.1, by rw [x.2.1 6 (by decide), x.2.1 7 (by decide), x.2.1 8 (by decide), ga 6 (by decide), ga 7 (by decide), ga 8 (by decide)]; exact q4.2⟩, by rw [fI_sI, if_pos ⟨rfl, rfl⟩]; rfl, ?_, ⟨by rw [x.1 0 25 (Or.inr (by decide)), g0]; exact q7.1, by rw [x.2.1 11 (by decide), ga 11 (by decide)]; exact q7.2⟩⟩
    show fL ν1.1 0 22 = _
    rw [g.2.2.2.2.1]; exact q6
theorem xSt.p10 {σ σ' : FS} {o : Nat} {P : Pl} {s : St} (h : xSt σ o P s) (eI : ∀ k, fI σ' o k = fI σ o k) (eA : fA σ' = fA σ) (eP : fP σ' (rK o) = fP σ (rK o)) : xSt σ' o P s := by
  unfold xSt xRk
  rw [eI, eI, eA, eP]; exact h
theorem xl_remembers {ν : XN} {Z : Wd} {Q : XN → Prop} (h : xAll ν Z) (hQ : ∀ ν', xAll ν' (remb Z) → Q ν') : xw_X0_remembers ν Q := by
  have hA := h
  obtain ⟨h1, h2, h3⟩ := h
  have hul := h1.2.2.2.2.2.2.2.1
  have q5 := h3.2.2.2.2.1
  unfold xw_X0_remembers
  rw [q5, i_20, nI_eq (by omega) (by omega)]
  refine ⟨fun z => xl_rem62 hA (by omega) (fun ν' h' => hQ ν' ?_), fun z => ⟨vp_in_nI (by decide) (by decide), ?_⟩⟩
  · unfold remb
    rw [List.take_of_length_le (by simp only [List.length_cons]; omega)]
    exact h'
  · unfold xw_X0_remembers_18
    intro X hX
    rw [show Int32.toNatClampNeg 0 = 0 from rfl]
    have key : ∀ n k (ν2 : XN), 20 - k = n → 1 ≤ k → k ≤ 20 → (∀ i, i < 20 → fP ν2.1 10 i = fP ν.1 10 (if i + 1 < k then i + 1 else i)) → (∀ a, a ≠ 10 → fP ν2.1 a = fP ν.1 a) → fI ν2.1 = fI ν.1 → fA ν2.1 = fA ν.1 → fL ν2.1 = fL ν.1 → fR ν2.1 = fR ν.1 → ν2.2 = ν.2 → X (fP ν.1 10 0) (nI k) ν2 := by
      intro n
      induction n with
      | zero =>
        intro k ν2 hn1 hk1 hk2 hf hfo eI eA eL eR e
        refine hX _ _ _ ⟨fun _ => ?_, fun q => absurd ((nI_leI (by omega) (by omega)).mpr (by omega) : nI 20 ≤ nI k) q⟩
        have o0 := h2.2.2.2.1.1 0 (by decide)
        refine ⟨vp_in_nI (by decide) (by decide), xoc_st (by omega) (by omega), ?_⟩
        intro ν3 e3
        subst e3
        intro ν4 e4
        subst e4
        have hi1 : fI (sP ν2.1 10 (Int32.toNatClampNeg 19) (fP ν.1 10 0)) 0 21 = nI 20 := by rw [fI_sP, eI, q5, z]
        rw [hi1, show nI 20 - 1 = nI 19 from rfl, show Int32.toNatClampNeg 19 = 19 from rfl]
        have hf3 : ∀ i, i < 20 → fP (sI (sP ν2.1 10 19 (fP ν.1 10 0)) 0 21 (nI 19)) 10 i = fP ν.1 10 (if i < 19 then i + 1 else 0) := by
          intro i hi
          rw [fP_sI, fP_sP]
          by_cases z9 : i = 19
          · rw [if_pos ⟨rfl, z9⟩, if_neg (by omega)]
          · rw [if_neg (fun q => z9 q.2), hf i hi, if_pos (by omega), if_pos (by omega)]
        have hfo3 : ∀ a, a ≠ 10 → fP (sI (sP ν2.1 10 19 (fP ν.1 10 0)) 0 21 (nI 19)) a = fP ν.1 a := by
          intro a ha
          funext i
          rw [fP_sI, fP_sP, if_neg (fun q => ha q.1), hfo a ha]
        have eA3 : fA (sI (sP ν2.1 10 19 (fP ν.1 10 0)) 0 21 (nI 19)) = fA ν.1 := eA
        have eI3 : ∀ o k', (o ≠ 0 ∨ k' ≠ 21) → fI (sI (sP ν2.1 10 19 (fP ν.1 10 0)) 0 21 (nI 19)) o k' = fI ν.1 o k' := by
          intro o k' ho
          rw [fI_sI, if_neg (fun q => by rcases ho with w | w; exact w q.1; exact w q.2), fI_sP, eI]
        have i21 : fI (sI (sP ν2.1 10 19 (fP ν.1 10 0)) 0 21 (nI 19)) 0 21 = nI 19 := by rw [fI_sI, if_pos ⟨rfl, rfl⟩]
        have eL3 : fL (sI (sP ν2.1 10 19 (fP ν.1 10 0)) 0 21 (nI 19)) = fL ν.1 := eL
        have eR3 : fR (sI (sP ν2.1 10 19 (fP ν.1 10 0)) 0 21 (nI 19)) = fR ν.1 := eR
        generalize sI (sP ν2.1 10 19 (fP ν.1 10 0)) 0 21 (nI 19) = σ3 at *
        have hst : ∀ o P s, 10 ≤ o → xSt ν.1 o P s → xSt σ3 o P s := fun o P s ho hs => hs.p10 (fun k => eI3 o k (Or.inl (by omega))) eA3 (hfo3 _ (by unfold rK; omega))
        have hl19 : ((wU Z).take 19).length = 19 := by rw [List.length_take, z]; rfl
        have hA3 : xAll (σ3, ν2.2) (putU Z ((wU Z).take 19)) := by
          obtain ⟨⟨b, b1, b2⟩, c2, c3, c4, c5, c6⟩ := h2
          obtain ⟨p1, p2, p3, p4, p5, p6, p7⟩ := h3
          refine ⟨h1.putU (by omega) (fun s hs => Or.inr (List.mem_of_mem_take hs)), ⟨⟨b, by rw [eR3]; exact b1, by rw [e]; exact b2⟩, ⟨hst _ _ _ (by decide) c2.1, by rw [eI3 10 2 (Or.inl (by decide))]; exact c2.2⟩, fun o' g1 g2 => ?_, ⟨fun i hi => ?_, fun i i' hi hi' q => ?_⟩, fun i s' hi => ?_, c6.e eR3 e (fun a _ ha => hfo3 a ha)⟩, ?_⟩
          · unfold xRk; rw [hfo3 _ (by unfold rK; omega)]; exact c3 o' g1 g2
          · rw [hf3 i hi]; exact c4.1 _ (by split <;> omega)
          · rw [hf3 i hi, hf3 i' hi'] at q
            have := c4.2 _ _ (by split <;> omega) (by split <;> omega) q
            split at this <;> split at this <;> omega
          · have hil : i < 19 := by
              have := (List.getElem?_eq_some_iff.mp hi).1
              have h9 : ((wU Z).take 19).length = 19 := hl19
              have : i < ((wU Z).take 19).length := this
              omega
            have hi' : ((wU Z).take 19)[i]? = some s' := hi
            rw [List.getElem?_take_of_lt hil] at hi'
            have h9 := c5 i s' hi'
            have hlen : (wU (putU Z ((wU Z).take 19))).length = 19 := hl19
            rw [hlen, hf3 _ (by omega), if_pos (by omega)]
            have e9 : 19 - 1 - i + 1 = (wU Z).length - 1 - i := by omega
            rw [e9]
            have := c4.1 ((wU Z).length - 1 - i) (by omega)
            exact hst _ _ _ (by omega) h9
          · have e1 : ∀ k', k' ≠ 21 → fI σ3 0 k' = fI ν.1 0 k' := fun k' hk' => eI3 0 k' (Or.inr hk')
            refine ⟨⟨by rw [e1 2 (by decide)]; exact p1.1, by rw [eA3]; exact p1.2⟩, by rw [e1 3 (by decide), e1 4 (by decide)]; exact p2, by rw [eA3]; exact p3, ⟨by rw [e1 18 (by decide)]; exact p4.1, by rw [eA3]; exact p4.2⟩, ?_, by rw [eL3]; exact p6, ⟨by rw [e1 25 (by decide)]; exact p7.1, by rw [eA3]; exact p7.2⟩⟩
            show fI σ3 0 21 = nI ((wU Z).take 19).length
            rw [i21, hl19]
        refine xl_rem62 hA3 (show ((wU Z).take 19).length < 20 by omega) (fun ν' h' => hQ ν' h')
      | succ n ih =>
        intro k ν2 hn1 hk1 hk2 hf hfo eI eA eL eR e
        refine hX _ _ _ ⟨fun q => absurd q (le_no 20 rfl (by decide) (by omega)), fun _ => ?_⟩
        have hkk := hf k (by omega)
        rw [if_neg (by omega)] at hkk
        have ok := h2.2.2.2.1.1 k (by omega)
        rw [i_1, pk_sub hk1, nI_clamp (show k < 2 ^ 31 by omega), nI_clamp (show k - 1 < 2 ^ 31 by omega), hkk]
        refine ⟨vp_in_nI (by omega) (by decide), vp_in_nI (by omega) (by decide), xoc_st (by omega) (by omega), ?_⟩
        intro ν3 e3
        subst e3
        rw [nI_add]
        refine ih (k + 1) _ (by omega) (by omega) (by omega) (fun i hi => ?_) (fun a ha => ?_) eI eA eL eR e
        · show fP (sP ν2.1 10 (k - 1) (fP ν.1 10 k)) 10 i = _
          rw [fP_sP]
          by_cases z9 : i = k - 1
          · rw [if_pos ⟨rfl, z9⟩, if_pos (by omega), show i + 1 = k from by omega]
          · rw [if_neg (fun q => z9 q.2), hf i hi]
            by_cases z8 : i + 1 < k
            · rw [if_pos z8, if_pos (by omega)]
            · rw [if_neg z8, if_neg (by omega)]
        · show fP (sP ν2.1 10 (k - 1) (fP ν.1 10 k)) a = _
          funext i
          rw [fP_sP, if_neg (fun q => ha q.1), hfo a ha]
    exact key 19 1 ν rfl (by decide) (by decide) (fun i hi => by rw [if_neg (by omega)]) (fun _ _ => rfl) rfl rfl rfl rfl rfl
theorem M1_lt0 : (M1 < (0 : Int32)) = True := by decide
theorem xa_undo {ν : XN} {Z : Wd} {Q : Int32 → XN → Prop} (h : xAll ν Z) (hQ : ∀ ν', xAll ν' (opUndo Z).2 → Q (opUndo Z).1 ν') : xw_X0_undo ν Q := by
  have hA := h
  obtain ⟨h1, h2, h3⟩ := h
  have hul := h1.2.2.2.2.2.2.2.1
  have q5 := h3.2.2.2.2.1
  unfold xw_X0_undo
  unfold opUndo at hQ
  cases hu : wU Z with
  | nil =>
    rw [hu] at hQ q5
    rw [q5]
    refine ⟨fun z => absurd rfl z, fun _ => ?_⟩
    refine xl_refuses hA (by decide) (fun ν' h' => ⟨fun _ => hQ ν' h', fun z => absurd (by decide) z⟩)
  | cons s u =>
    rw [hu] at hQ hul q5
    rw [q5]
    simp only [List.length_cons] at hul q5 ⊢
    refine ⟨fun _ => ?_, fun z => ?_⟩
    · intro ν1 e1
      subst e1
      have e2 : nI (u.length + 1) - 1 = nI u.length := by rw [i_1, pk_sub (by omega)]; rfl
      rw [e2]
      have x : X0 [21] [] ν.1 (sI ν.1 0 21 (nI u.length)) := X0.sI _ _ (by decide)
      have v21 : fI (sI ν.1 0 21 (nI u.length)) 0 21 = nI u.length := by rw [fI_sI, if_pos ⟨rfl, rfl⟩]
      rw [v21, nI_clamp (by omega)]
      have hok : woOK (putU Z u) := h1.putU (by omega) (fun s' hs' => Or.inr (by rw [hu]; exact List.mem_cons_of_mem _ hs'))
      obtain ⟨⟨b, b1, b2⟩, c2, c3, c4, c5, c6⟩ := h2
      have hc1 : xCo ν (wP Z) (wS Z) u := ⟨⟨b, b1, b2⟩, c2, c3, c4, fun i s' hi => by
        have := c5 (i + 1) s' (by rw [hu, List.getElem?_cons_succ]; exact hi)
        rw [hu] at this
        simp only [List.length_cons] at this
        rw [show u.length + 1 - 1 - (i + 1) = u.length - 1 - i by omega] at this
        exact this, c6⟩
      have hA1 : xAll (sI ν.1 0 21 (nI u.length), ν.2) (putU Z u) := by
        refine ⟨hok, X0.co2 (ν := ν) x (by decide) (show u.length ≤ 20 by omega) hc1, ?_⟩
        obtain ⟨p1, p2, p3, p4, p5, p6, p7⟩ := h3
        refine ⟨⟨by rw [x.1 0 2 (Or.inr (by decide))]; exact p1.1, p1.2⟩, by rw [x.1 0 3 (Or.inr (by decide)), x.1 0 4 (Or.inr (by decide))]; exact p2, p3, ⟨by rw [x.1 0 18 (Or.inr (by decide))]; exact p4.1, p4.2⟩, v21, p6, ⟨by rw [x.1 0 25 (Or.inr (by decide))]; exact p7.1, p7.2⟩⟩
      have hs0 : xSt ν.1 (fP ν.1 10 u.length) (wP Z) s := by
        have := c5 0 s (by rw [hu]; rfl)
        rw [hu] at this
        simpa using this
      have o0 := c4.1 u.length (by omega)
      refine ⟨vp_in_nI (by omega) (by decide), ?_⟩
      refine xl_copy (P := wP Z) (s := s) (by decide) (by decide) (by show 10 ≤ fP ν.1 10 u.length; omega) (by show fP ν.1 10 u.length < 36; omega) (by show 10 ≠ fP ν.1 10 u.length; omega) (x.st (fun a ha => by cases ha) (show 10 ≤ fP ν.1 10 u.length by omega) hs0) (hA1.2.1.2.2.1 10 (by decide) (by decide)) hA.cl h1.np.1 (fun ν3 g e eB eP hs hz => ?_)
      have hso := h1.2.2.2.2.2.2.2.2.1 s (by rw [hu]; exact List.mem_cons_self)
      refine hQ ν3 ⟨hok.putS hso.1 hso.2, hA1.2.1.fr g e ⟨by decide, by decide⟩ hs.2.2.2.2.2.1 ⟨hs, hz⟩ (show u.length ≤ 20 by omega), hA1.2.2.fr (s := s) g (by decide)⟩
    · rw [i_0, nI_eq (by omega) (by omega)] at z; omega
theorem xa_asks {ν : XN} {Z : Wd} {d : Nat} {x y : Int32} {Q : Int32 → XN → Prop} (hd : DP ≤ d) (h : xAll ν Z) (hQ : ∀ ν', xAll ν' (opAsks Z x y).2 → Q (opAsks Z x y).1 ν') : xw_X0_asks (VTA d).1 (VTA d).2 x y ν Q := by
  obtain ⟨b, hb, -⟩ := h.pb
  unfold xw_X0_asks xw_X0_asks_16
  unfold opAsks at hQ
  refine xl_isPerson hb (fun p p1 p2 p3 => ⟨fun z => absurd z (by decide), fun _ => ?_⟩) (fun p1 => ⟨fun _ => ?_, fun z => absurd rfl z⟩)
  · subst p3
    refine xl_isTopic hb (fun t t1 t2 t3 => ⟨fun _ => ?_, fun z => absurd z (by decide)⟩) (fun t1 => ⟨fun z => absurd rfl z, fun _ => ?_⟩)
    · subst t3
      simp only [p1, t1] at hQ
      refine xl_remembers h (fun ν1 h1 => ?_)
      obtain ⟨b1, hb1, -⟩ := h1.pb
      refine xl_asked (sil := 0) (by decide) (by decide) (h1.cx hd hb1 (h.ok p2)) h1.2.1.2.1.1 h1.2.1.2.1.2 (by decide) p2 t2 (fun ν2 g2 e2 hs2 => ?_)
      exact hQ ν2 (h1.now g2 e2 hs2 (by rw [zAs_D]; exact h.1.2.2.1))
    · simp only [p1, t1] at hQ
      exact xl_refuses h (by decide) hQ
  · simp only [p1] at hQ
    exact xl_refuses h (by decide) hQ
/-- one number of a person changes -/
theorem xSt.put {σ : FS} {o a p v : Nat} {P : Pl} {s s' : St} (hs : xSt σ o P s) (ha : a = aK o ∨ a = tK' o ∨ a = kK o) (hok : stOK P s') (hD : zD s' = zD s) (hH : zH s' = zH s) (hE : zE s' = zE s) (hp : ∀ q, q < nP P → (if aK o = a ∧ q = p then nI v else fA σ (aK o) q) = nI (zA s' q) ∧ (if tK' o = a ∧ q = p then nI v else fA σ (tK' o) q) = nI (zT s' q) ∧ (if kK o = a ∧ q = p then nI v else fA σ (kK o) q) = nI (zK s' q)) : xSt (sA σ a p (nI v)) o P s' := by
  obtain ⟨s1, s2, s3, s4, s5, s6, s7⟩ := hs
  have nk := @kne o
  refine ⟨hok, by rw [hD]; exact s2, by rw [hE]; exact s3, fun c hc => ?_, fun q hq => ?_, s6, fun k r hk => ?_⟩
  · rw [fA_sA, if_neg (fun z => ?_), hH]
    · exact s4 c hc
    · rcases ha with w | w | w
      · exact nk.1 (z.1.trans w)
      · exact nk.2.1 (z.1.trans w)
      · exact nk.2.2.1 (z.1.trans w)
  · rw [fA_sA, fA_sA, fA_sA]; exact hp q hq
  · rw [hE] at hk
    have hk4 : k < 40 := Nat.lt_of_lt_of_le (List.getElem?_eq_some_iff.mp hk).1 s1.2.2.2
    have hne : fP σ (rK o) k ≠ a := by
      have := s6.ne hk4
      rcases ha with w | w | w
      · rw [w]; exact this.2.1
      · rw [w]; exact this.2.2.1
      · rw [w]; exact this.2.2.2.1
    show fA (sA σ a p (nI v)) (fP σ (rK o) k) 0 = _ ∧ fA (sA σ a p (nI v)) (fP σ (rK o) k) 1 = _ ∧ fA (sA σ a p (nI v)) (fP σ (rK o) k) 2 = _ ∧ fA (sA σ a p (nI v)) (fP σ (rK o) k) 3 = _
    simp only [fA_sA, hne, false_and, if_false]
    exact s7 k r hk
theorem xl_no2 {ν : XN} {Z : Wd} {k : Nat} {Q : Int32 → XN → Prop} (h : xAll ν Z) (hk : k < 6) (hQ : ∀ ν', xAll ν' (putRf Z k) → Q (nI 0) ν') : xw_X0_refuses (nI k) ν (fun r ν1 => ((r < 0 → Q 0 ν1) ∧ (¬ r < 0 → Q 1 ν1))) :=
  xl_refuses h hk (fun ν' h' => ⟨fun _ => hQ ν' h', fun z => absurd (by decide) z⟩)
theorem xa_teach {ν : XN} {Z : Wd} {x y o : Int32} {Q : Int32 → XN → Prop} (h : xAll ν Z) (hQ : ∀ ν', xAll ν' (opTeach Z x y o).2 → Q (opTeach Z x y o).1 ν') : xw_X0_teach x y o ν Q := by
  obtain ⟨b, hb, -⟩ := h.pb
  have hn := h.1.np
  obtain ⟨kk1, kk2, kk3⟩ := xk_k (o := 10) (by decide) (by decide)
  unfold xw_X0_teach xw_X0_teach_51
  unfold opTeach at hQ
  refine xl_isPerson hb (fun p p1 p2 p3 => ⟨fun z => absurd z (by decide), fun _ => ?_⟩) (fun p1 => ⟨fun _ => ?_, fun z => absurd rfl z⟩)
  · subst p3
    refine xl_isTopic hb (fun t t1 t2 t3 => ⟨fun z => absurd z (by decide), fun _ => ?_⟩) (fun t1 => ⟨fun _ => ?_, fun z => absurd rfl z⟩)
    · subst t3
      refine xl_is (n := 2) (by decide) (fun v v1 v2 v3 => ⟨fun z => absurd z (by decide), fun _ => ?_⟩) (fun v1 => ⟨fun _ => ?_, fun z => absurd rfl z⟩)
      · subst v3
        simp only [p1, t1, v1] at hQ
        have hP := h.ok p2
        have h5 := hP.2.2.2.1
        have c3 := (h.1.2.1.2.2.1 p p2).2.2
        have hk32 : zK (wS Z) p < 32 := Nat.lt_of_lt_of_le c3 (Nat.le_trans (Nat.pow_le_pow_right (by decide) h5) (by decide))
        have hbit : zK (wS Z) p / 2 ^ t % 2 < 2 := Nat.mod_lt _ (by decide)
        have a3 := (h.2.1.2.1.1.2.2.2.2.1 p p2).2.2
        rw [kk1, kk3, nI_clamp (by omega), a3]
        refine ⟨kk2, vp_in_nI (by omega) (by decide), ?_⟩
        have go : ∀ w r, w < 2 → r < 2 → (r = w ↔ zK (wS Z) p / 2 ^ t % 2 = v) → xw_X0_teach_48 (nI p) (nI t) (nI w) (nI r) ν Q := by
          intro w r hw hr hwr
          unfold xw_X0_teach_48 xw_X0_teach_51
          rw [nI_eq (by omega) (by omega)]
          refine ⟨fun z => ?_, fun z => ?_⟩
          · rw [if_neg (fun q => z (hwr.mpr q))] at hQ
            refine xl_remembers h (fun ν1 h1 => ?_)
            have a4 := (h1.2.1.2.1.1.2.2.2.2.1 p p2).2.2
            rw [kk1, kk3, nI_clamp (by omega), a4]
            refine ⟨kk2, vp_in_nI (by omega) (by decide), kk2, vp_in_nI (by omega) (by decide), ?_⟩
            intro ν2 e2
            subst e2
            have hx : nI (zK (wS (remb Z)) p) ^^^ ((1 : Int32) <<< (nI t &&& 31)) = nI (zK (wS Z) p ^^^ 2 ^ t) := by
              rw [i_1, i_31, nI_shl (by omega), nI_xor]; rfl
            rw [hx]
            refine hQ _ (h1.now (s := (zD (wS Z), zH (wS Z), zA (wS Z), zT (wS Z), up (zK (wS Z)) p (zK (wS Z) p ^^^ 2 ^ t), zE (wS Z))) (XGo.sA _ _ _ kdiv.2.2.2) rfl ?_ h.1.2.2.1)
            have so := h.1.2.1
            refine xSt.put (s := wS Z) h1.2.1.2.1.1 (Or.inr (Or.inr rfl)) ⟨so.1, so.2.1, fun q hq => ⟨(so.2.2.1 q hq).1, (so.2.2.1 q hq).2.1, ?_⟩, so.2.2.2⟩ rfl rfl rfl (fun q hq => ?_)
            · show up (zK (wS Z)) p _ q < _
              unfold up
              split
              · exact xor_lt c3 t2
              · exact (so.2.2.1 q hq).2.2
            · have s5 := h1.2.1.2.1.1.2.2.2.2.1 q hq
              refine ⟨?_, ?_, ?_⟩
              · rw [if_neg (fun z => kne.2.2.2.2.1 z.1)]; exact s5.1
              · rw [if_neg (fun z => kne.2.2.2.2.2 z.1)]; exact s5.2.1
              · show _ = nI (up (zK (wS Z)) p _ q)
                unfold up
                by_cases z : q = p
                · rw [if_pos ⟨rfl, z⟩, if_pos z]
                · rw [if_neg (fun w => z w.2), if_neg z]; exact s5.2.2
          · rw [if_pos (hwr.mp z)] at hQ
            exact xl_no2 h (by decide) hQ
        refine xl_has (by omega) (by omega) (fun z => ⟨fun q => go 0 1 (by decide) (by decide) ?_, fun q => go 1 1 (by decide) (by decide) ?_⟩) (fun z => ⟨fun q => go 0 0 (by decide) (by decide) ?_, fun q => go 1 0 (by decide) (by decide) ?_⟩)
        · rw [i_1, nI_eq (by omega) (by omega)] at q; omega
        · rw [i_1, nI_eq (by omega) (by omega)] at q; omega
        · rw [i_1, nI_eq (by omega) (by omega)] at q; omega
        · rw [i_1, nI_eq (by omega) (by omega)] at q; omega
      · simp only [p1, t1, v1] at hQ
        exact xl_no2 h (by decide) hQ
    · simp only [p1, t1] at hQ
      exact xl_no2 h (by decide) hQ
  · simp only [p1] at hQ
    exact xl_no2 h (by decide) hQ
theorem xa_ease {ν : XN} {Z : Wd} {x : Int32} {Q : Int32 → XN → Prop} (h : xAll ν Z) (hQ : ∀ ν', xAll ν' (opEase Z x).2 → Q (opEase Z x).1 ν') : xw_X0_ease x ν Q := by
  obtain ⟨b, hb, -⟩ := h.pb
  have hn := h.1.np
  obtain ⟨kk1, kk2, kk3⟩ := xk_t (o := 10) (by decide) (by decide)
  unfold xw_X0_ease xw_X0_ease_20
  unfold opEase at hQ
  refine xl_isPerson hb (fun p p1 p2 p3 => ⟨fun z => absurd z (by decide), fun _ => ?_⟩) (fun p1 => ⟨fun _ => ?_, fun z => absurd rfl z⟩)
  · subst p3
    simp only [p1] at hQ
    have ht9 := (h.1.2.1.2.2.1 p p2).2.1
    have a3 := (h.2.1.2.1.1.2.2.2.2.1 p p2).2.1
    rw [kk1, kk3, nI_clamp (by omega), a3, i_0, nI_eq (by omega) (by omega)]
    refine ⟨kk2, vp_in_nI (by omega) (by decide), fun z => ?_, fun z => ?_⟩
    · rw [if_neg z] at hQ
      refine xl_remembers h (fun ν1 h1 => ⟨kk2, vp_in_nI (by omega) (by decide), ?_⟩)
      intro ν2 e2
      subst e2
      have so := h.1.2.1
      refine hQ _ (h1.now (s := (zD (wS Z), zH (wS Z), zA (wS Z), up (zT (wS Z)) p 0, zK (wS Z), zE (wS Z))) (XGo.sA _ _ _ kdiv.2.2.1) rfl ?_ h.1.2.2.1)
      refine xSt.put (s := wS Z) h1.2.1.2.1.1 (Or.inr (Or.inl rfl)) ⟨so.1, so.2.1, fun q hq => ⟨(so.2.2.1 q hq).1, ?_, (so.2.2.1 q hq).2.2⟩, so.2.2.2⟩ rfl rfl rfl (fun q hq => ?_)
      · show up (zT (wS Z)) p 0 q ≤ 9
        unfold up
        split
        · omega
        · exact (so.2.2.1 q hq).2.1
      · have s5 := h1.2.1.2.1.1.2.2.2.2.1 q hq
        refine ⟨?_, ?_, ?_⟩
        · rw [if_neg (fun z => kne.2.2.2.1 z.1)]; exact s5.1
        · show _ = nI (up (zT (wS Z)) p 0 q)
          unfold up
          by_cases z : q = p
          · rw [if_pos ⟨rfl, z⟩, if_pos z]
          · rw [if_neg (fun w => z w.2), if_neg z]; exact s5.2.1
        · rw [if_neg (fun z => kne.2.2.2.2.2 z.1.symm)]; exact s5.2.2
    · rw [if_pos z] at hQ
      exact xl_no2 h (by decide) hQ
  · simp only [p1] at hQ
    exact xl_no2 h (by decide) hQ
theorem xa_go {ν : XN} {Z : Wd} {x y r : Int32} {Q : Int32 → XN → Prop} (h : xAll ν Z) (hQ : ∀ ν', xAll ν' (opGo Z x y r).2 → Q (opGo Z x y r).1 ν') : xw_X0_go x y r ν Q := by
  obtain ⟨b, hb, -⟩ := h.pb
  have hn := h.1.np
  obtain ⟨kk1, kk2, kk3⟩ := xk_a (o := 10) (by decide) (by decide)
  unfold xw_X0_go xw_X0_go_33
  unfold opGo at hQ
  refine xl_isPerson hb (fun p p1 p2 p3 => ⟨fun z => absurd z (by decide), fun _ => ?_⟩) (fun p1 => ⟨fun _ => ?_, fun z => absurd rfl z⟩)
  · subst p3
    refine xl_isIn hb (fun c r' c1 r1 c2 r2 c3 r3 => ⟨fun z => absurd z (by decide), fun _ => ?_⟩) (fun hx => ⟨fun _ => ?_, fun z => absurd rfl z⟩)
    · subst c3 r3
      simp only [p1, cellS_s c1 r1] at hQ
      rw [cell8 (by omega) (by omega)]
      refine xl_isFree (by decide) (by decide) hb h.2.1.2.1.1 (by omega) h.cl ?_
      by_cases hf : freeS (wP Z) (wS Z) (8 * r' + c) = true
      · rw [if_pos hf] at hQ ⊢
        refine ⟨fun _ => ?_, fun z => absurd z (by decide)⟩
        refine xl_remembers h (fun ν1 h1 => ?_)
        rw [kk1, kk3, nI_clamp (by omega)]
        refine ⟨kk2, vp_in_nI (by omega) (by decide), ?_⟩
        intro ν2 e2
        subst e2
        have so := h.1.2.1
        refine hQ _ (h1.now (s := (zD (wS Z), zH (wS Z), up (zA (wS Z)) p (8 * r' + c), zT (wS Z), zK (wS Z), zE (wS Z))) (XGo.sA _ _ _ kdiv.2.1) rfl ?_ h.1.2.2.1)
        refine xSt.put (s := wS Z) h1.2.1.2.1.1 (Or.inl rfl) ⟨so.1, so.2.1, fun q hq => ⟨?_, (so.2.2.1 q hq).2.1, (so.2.2.1 q hq).2.2⟩, so.2.2.2⟩ rfl rfl rfl (fun q hq => ?_)
        · show isC (wP Z) (up (zA (wS Z)) p (8 * r' + c) q)
          unfold up
          split
          · exact ⟨by omega, by omega⟩
          · exact (so.2.2.1 q hq).1
        · have s5 := h1.2.1.2.1.1.2.2.2.2.1 q hq
          refine ⟨?_, ?_, ?_⟩
          · show _ = nI (up (zA (wS Z)) p (8 * r' + c) q)
            unfold up
            by_cases z : q = p
            · rw [if_pos ⟨rfl, z⟩, if_pos z]
            · rw [if_neg (fun w => z w.2), if_neg z]; exact s5.1
          · rw [if_neg (fun z => kne.2.2.2.1 z.1.symm)]; exact s5.2.1
          · rw [if_neg (fun z => kne.2.2.2.2.1 z.1.symm)]; exact s5.2.2
      · rw [if_neg hf] at hQ ⊢
        refine ⟨fun z => absurd rfl z, fun _ => ?_⟩
        exact xl_no2 h (by decide) hQ
    · simp only [p1, cellS_n hx] at hQ
      exact xl_no2 h (by decide) hQ
  · simp only [p1] at hQ
    exact xl_no2 h (by decide) hQ
theorem xa_days {ν : XN} {Z : Wd} {d : Nat} {n : Int32} {Q : Int32 → XN → Prop} (hd : DP ≤ d) (h : xAll ν Z) (hQ : ∀ ν', xAll ν' (opDays Z n).2 → Q (opDays Z n).1 ν') : xw_X0_days (VTA d).1 (VTA d).2 n ν Q := by
  obtain ⟨b, hb, -⟩ := h.pb
  unfold xw_X0_days
  unfold opDays at hQ
  refine xl_isAhead (lo := 1) (hi := 100) (s := wS Z) hb h.2.1.2.1.1.2.1 h.1.2.1.1 (by decide) (by decide) (fun m j1 j2 j3 j4 j5 j6 => ⟨fun _ => ?_, fun z => absurd z (by decide)⟩) (fun j1 => ⟨fun z => absurd rfl z, fun _ => ?_⟩)
  · subst j5
    simp only [j1] at hQ
    have hP := h.okc j2
    refine xl_remembers h (fun ν0 h0 => ?_)
    unfold xw_X0_days_25
    intro X hX
    have key : ∀ j k a (s : St) (ν1 : XN), m - k = j → k ≤ m → a ≤ k → zD s + j ≤ 999 → xAll ν1 (putS (remb Z) s) → a + zDn (wP Z) 0 j s = zDn (wP Z) 0 m (wS Z) → zDs (wP Z) 0 j s = zDs (wP Z) 0 m (wS Z) → X (nI m) (nI a) (nI k) ν1 := by
      intro j
      induction j with
      | zero =>
        intro k a s ν1 hj hk ha hz hA1 e1 e2
        refine hX _ _ _ _ ⟨fun _ => ?_, fun z => absurd ((nI_leI (by omega) (by omega)).mpr (by omega)) z⟩
        rw [← e1, ← e2] at hQ
        exact hQ ν1 hA1
      | succ j ih =>
        intro k a s ν1 hj hk ha hz hA1 e1 e2
        obtain ⟨b1, hb1, -⟩ := hA1.pb
        refine hX _ _ _ _ ⟨fun z => absurd ((nI_leI (by omega) (by omega)).mp z) (by omega), fun _ => ?_⟩
        refine xl_passes (sil := 0) (by decide) (by decide) (hA1.cx hd hb1 hP) hA1.2.1.2.1.1 hA1.2.1.2.1.2 (by decide) (show zD s < 5000 by omega) (fun ν2 g2 e2' hs2 => ?_)
        have hA2 : xAll ν2 (putS (remb Z) (zDy (wP Z) 0 s)) := hA1.now g2 e2' hs2 (by show zD (zDy (wP Z) 0 s) ≤ 999; rw [zDy_D]; omega)
        have hc2 : zDc (wP Z) 0 s < 2 := by
          unfold zDc
          split
          · omega
          · split <;> omega
        have go : ∀ w, w = zDc (wP Z) 0 s → xw_X0_days_46 (VTA d).1 (VTA d).2 X (nI m) (nI k) (nI w) (nI a) ν2 Q := by
          intro w hw
          subst hw
          unfold xw_X0_days_46
          rw [nI_add, nI_1]
          refine ih (k + 1) _ _ ν2 (by omega) (by omega) (by omega) (by rw [zDy_D]; omega) hA2 ?_ e2
          rw [← e1]
          show a + zDc (wP Z) 0 s + zDn (wP Z) 0 j (zDy (wP Z) 0 s) = a + (zDc (wP Z) 0 s + zDn (wP Z) 0 j (zDy (wP Z) 0 s))
          omega
        show (nI (zDc (wP Z) 0 s) = 0 → _) ∧ (¬ nI (zDc (wP Z) 0 s) = 0 → _)
        rw [i_0, nI_eq (by omega) (by omega)]
        exact ⟨fun z => go 0 z.symm, fun z => go 1 (by omega)⟩
    exact key m 0 0 (wS Z) ν0 rfl (by omega) (by omega) j6 h0 (by rw [Nat.zero_add]) rfl
  · simp only [j1] at hQ
    exact xl_refuses h (by decide) hQ
