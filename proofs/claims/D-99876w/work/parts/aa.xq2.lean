/-! THE SYSTEM: more queries -/
theorem xq_rises {ν : XN} {Z : Wd} {d : Nat} {x y hh : Int32} {Q : Int32 → XN → Prop} (hd : DP ≤ d) (h : xAll ν Z) (hQ : ∀ ν', xAll ν' Z → Q (opRises Z x y hh) ν') : xw_X0_rises (VTA d).1 (VTA d).2 x y hh ν Q := by
  obtain ⟨b, hb, -⟩ := h.pb
  have hn := h.1.np
  obtain ⟨k1, k2, k3⟩ := xk_h (o := 11) (by decide) (by decide)
  unfold xw_X0_rises
  unfold opRises at hQ
  refine xl_isIn hb (fun c r c1 r1 c2 r2 c3 r3 => ⟨fun _ => ?_, fun z => absurd z (by decide)⟩) (fun hx => ⟨fun z => absurd rfl z, fun _ => ?_⟩)
  · subst c3 r3
    have hP := h.okc c2
    have hd9 := h.1.2.2.1
    have hc : isC (wP Z) (8 * r + c) := ⟨by omega, by omega⟩
    simp only [cellS_s c1 r1] at hQ
    refine xl_try h (fun ν1 hA1 g1 e1 hs1 hz1 => ?_)
    unfold xw_X0_rises_26
    intro X hX
    have key : ∀ j n (s : St) (ν2 : XN), min 60 (999 - zD (wS Z)) - n = j → n ≤ min 60 (999 - zD (wS Z)) → zD s = zD (wS Z) + n → xAll ν2 Z → xSt ν2.1 11 (wP Z) s → fI ν2.1 11 2 = nI 0 → risS (wP Z) (8 * r + c) hh j n s = risS (wP Z) (8 * r + c) hh (min 60 (999 - zD (wS Z))) 0 (wS Z) → X (nI c) (nI r) hh (nI n) ν2 := by
      intro j
      induction j with
      | zero =>
        intro n s ν2 hj hnn hz hA2 hs2 hz2 he
        obtain ⟨b2, hb2, -⟩ := hA2.pb
        have hhv := hs2.1.2.1 _ hc
        simp only [risS] at he
        refine hX _ _ _ _ _ ?_
        refine xl_isAhead (lo := 0) (hi := 60) (s := wS Z) hb2 hA2.2.1.2.1.1.2.1 h.1.2.1.1 (by decide) (by decide) (fun j j1 j2 j3 j4 j5 j6 => ⟨fun z => absurd z (by decide), fun _ => ?_⟩) (fun j1 => absurd j1 ?_)
        · rw [cell8 (by omega) (by omega), k1, k3, nI_clamp (by omega), hs2.2.2.2.1 _ hc]
          refine ⟨k2, vp_in_nI (by omega) (by decide), fun z => ?_, fun z => ?_⟩
          · rw [if_neg (Int32.not_le.mpr z)] at he
            refine xl_passes (sil := 0) (by decide) (by decide) (hA2.cx hd hb2 hP) hs2 hz2 (by decide) (by omega) (fun ν3 g3 e3 hs3 => ?_)
            have hA3 := hA2.fr g3.1 e3 ⟨by decide, by decide⟩ hs3.2.2.2.2.2.1
            obtain ⟨b3, hb3, -⟩ := hA3.pb
            rw [nI_1]
            refine hX _ _ _ _ _ ?_
            refine xl_isAhead (lo := 0) (hi := 60) (s := wS Z) hb3 hA3.2.1.2.1.1.2.1 h.1.2.1.1 (by decide) (by decide) (fun j j1 j2 j3 j4 j5 j6 => ?_) (fun j1 => ⟨fun _ => ?_, fun z => absurd rfl z⟩)
            · rw [nI_eq (by omega) (by omega)] at j5
              omega
            · have h9 := hQ ν3 hA3
              rw [← he] at h9; exact h9
          · rw [if_pos (Int32.not_lt.mp z)] at he
            have h9 := hQ ν2 hA2
            rw [← he] at h9; exact h9
        · unfold ahd
          rw [ix_nI2 (by omega), if_pos (by omega)]
          simp only []
          rw [if_pos ⟨by omega, by omega, by omega⟩]
          simp
      | succ j ih =>
        intro n s ν2 hj hnn hz hA2 hs2 hz2 he
        obtain ⟨b2, hb2, -⟩ := hA2.pb
        have hhv := hs2.1.2.1 _ hc
        simp only [risS] at he
        refine hX _ _ _ _ _ ?_
        refine xl_isAhead (lo := 0) (hi := 60) (s := wS Z) hb2 hA2.2.1.2.1.1.2.1 h.1.2.1.1 (by decide) (by decide) (fun j j1 j2 j3 j4 j5 j6 => ⟨fun z => absurd z (by decide), fun _ => ?_⟩) (fun j1 => absurd j1 ?_)
        · rw [cell8 (by omega) (by omega), k1, k3, nI_clamp (by omega), hs2.2.2.2.1 _ hc]
          refine ⟨k2, vp_in_nI (by omega) (by decide), fun z => ?_, fun z => ?_⟩
          · rw [if_neg (Int32.not_le.mpr z)] at he
            refine xl_passes (sil := 0) (by decide) (by decide) (hA2.cx hd hb2 hP) hs2 hz2 (by decide) (by omega) (fun ν3 g3 e3 hs3 => ?_)
            have hA3 := hA2.fr g3.1 e3 ⟨by decide, by decide⟩ hs3.2.2.2.2.2.1
            rw [nI_1]
            exact ih (n + 1) _ ν3 (by omega) (by omega) (by rw [zDy_D]; omega) hA3 hs3 (g3.2.trans hz2) he
          · rw [if_pos (Int32.not_lt.mp z)] at he
            have h9 := hQ ν2 hA2
            rw [← he] at h9; exact h9
        · unfold ahd
          rw [ix_nI2 (by omega), if_pos (by omega)]
          simp only []
          rw [if_pos ⟨by omega, by omega, by omega⟩]
          simp
    exact key _ 0 (wS Z) ν1 rfl (by omega) rfl hA1 hs1 hz1 rfl
  · simp only [cellS_n hx] at hQ; exact hQ ν h
theorem xl_sum {ν : XN} {Z : Wd} {Q : Int32 → XN → Prop} (h : xAll ν Z) (hQ : Q (nI ((cls (wP Z)).foldl (fun a c => a + zH (wS Z) c) 0)) ν) : xw_X0_has_2_105 0 0 ν Q := by
  obtain ⟨b, hb, -⟩ := h.pb
  have hn := h.1.np
  obtain ⟨k1, k2, k3⟩ := xk_h (o := 10) (by decide) (by decide)
  unfold xw_X0_has_2_105
  intro X hX
  have key : ∀ n k a, 64 - k = n → k ≤ 64 → Q (nI ((((List.range 64).drop k).filter (fun c => decide (c % 8 < plC (wP Z) ∧ c / 8 < plR (wP Z)))).foldl (fun a c => a + zH (wS Z) c) a)) ν → X (nI a) (nI k) ν := by
    intro n
    induction n with
    | zero =>
      intro k a hn hk hq
      rw [List.drop_eq_nil_of_le (by simp; omega)] at hq
      refine hX _ _ _ ⟨fun _ => hq, fun c => absurd (?_ : nI 64 ≤ nI k) c⟩
      rw [nI_leI (by omega) (by omega)]; omega
    | succ n ih =>
      intro k a hn hk hq
      rw [List.drop_eq_getElem_cons (by simp; omega), List.getElem_range, List.filter_cons] at hq
      refine hX _ _ _ ⟨fun c => ?_, fun _ => ?_⟩
      · have c2 : nI 64 ≤ nI k := c
        rw [nI_leI (by omega) (by omega)] at c2; omega
      · unfold xw_X0_has_2_133
        refine xl_isCellN hb (by omega) (fun hc => ⟨fun q => absurd q (by decide), fun _ => ?_⟩) (fun hc => ⟨fun _ => ?_, fun q => absurd rfl q⟩)
        · rw [if_pos (by rw [decide_eq_true_iff]; exact hc), List.foldl_cons] at hq
          rw [k1, k3, nI_clamp (by omega), h.2.1.2.1.1.2.2.2.1 k hc, nI_add, nI_1]
          exact ⟨k2, vp_in_nI (by omega) (by decide), ih (k + 1) _ (by omega) (by omega) hq⟩
        · rw [if_neg (by rw [decide_eq_true_iff]; exact hc)] at hq
          rw [Int32.add_zero, nI_1]
          exact ih (k + 1) a (by omega) (by omega) hq
  exact key 64 0 0 rfl (by decide) hQ
theorem xq_has {ν : XN} {Z : Wd} {x : Int32} {Q : Int32 → XN → Prop} (h : xAll ν Z) (hQ : Q (opHas Z x) ν) : xw_X0_has_2 x ν Q := by
  obtain ⟨b, hb, hs⟩ := h.pb
  obtain ⟨l, as, l1, l2, l3, l4⟩ := hs.2.2.2.2.1
  have hA := h
  obtain ⟨-, hC, hM⟩ := h
  unfold xw_X0_has_2
  unfold opHas at hQ
  refine ⟨fun c => ?_, fun c0 => ⟨fun c => ?_, fun c1 => ⟨fun c => ?_, fun c2 => ⟨fun c => ?_, fun c3 => ⟨fun c => ?_, fun c4 => ⟨fun c => ?_, fun c5 => ⟨fun c => ?_, fun c6 => ⟨fun c => ?_, fun c7 => ⟨fun c => ?_, fun c8 => ⟨fun c => ?_, fun c9 => ?_⟩⟩⟩⟩⟩⟩⟩⟩⟩⟩
  · rw [if_pos c] at hQ
    exact ⟨b, hb.1, hb.2.1, by rw [hb.2.2.1.1]; exact hQ⟩
  · rw [if_neg c0, if_pos c] at hQ
    exact ⟨b, hb.1, hb.2.1, by rw [hb.2.2.1.2.1]; exact hQ⟩
  · rw [if_neg c0, if_neg c1, if_pos c] at hQ
    exact xl_topics hb hQ
  · rw [if_neg c0, if_neg c1, if_neg c2, if_pos c] at hQ
    exact xl_people hb hQ
  · rw [if_neg c0, if_neg c1, if_neg c2, if_neg c3, if_pos c] at hQ
    exact ⟨b, hb.1, hb.2.1, l, l1, l2.1, xl_size l2 (by rw [l3]; exact hQ)⟩
  · rw [if_neg c0, if_neg c1, if_neg c2, if_neg c3, if_neg c4, if_pos c] at hQ
    rw [hC.2.1.1.2.1]; exact hQ
  · rw [if_neg c0, if_neg c1, if_neg c2, if_neg c3, if_neg c4, if_neg c5, if_pos c] at hQ
    exact xl_sum hA hQ
  · rw [if_neg c0, if_neg c1, if_neg c2, if_neg c3, if_neg c4, if_neg c5, if_neg c6, if_pos c] at hQ
    rw [hC.2.1.1.2.2.1]; exact hQ
  · rw [if_neg c0, if_neg c1, if_neg c2, if_neg c3, if_neg c4, if_neg c5, if_neg c6, if_neg c7, if_pos c] at hQ
    rw [hM.2.2.2.1.1]; exact hQ
  · rw [if_neg c0, if_neg c1, if_neg c2, if_neg c3, if_neg c4, if_neg c5, if_neg c6, if_neg c7, if_neg c8, if_pos c] at hQ
    rw [hM.2.2.2.2.1]; exact hQ
  · rw [if_neg c0, if_neg c1, if_neg c2, if_neg c3, if_neg c4, if_neg c5, if_neg c6, if_neg c7, if_neg c8, if_neg c9] at hQ
    exact hQ
theorem xl_sLen {ν : XN} {a : Nat} {w : List Nat} {Q : Int32 → XN → Prop} (h : SRep ν.2 a w) (hQ : Q (nI w.length) ν) : xw_J6_length a ν Q := by
  obtain ⟨h1, h2, ⟨va, h3, h4, h5, h6⟩, h7, h8⟩ := h
  unfold xw_J6_length xw_J6_coder
  refine ⟨h1, va, h3, h4, h1, fun z => absurd z (by decide), fun _ => ⟨h1, ?_, ?_⟩⟩
  · rw [h2]; rfl
  · rw [h2, h5]
    show Q (nI w.length >>> _) ν
    rw [shr_0 (by omega)]; exact hQ
theorem xl_sAt {ν : XN} {a k c : Nat} {w : List Nat} {Q : Int32 → XN → Prop} (h : SRep ν.2 a w) (hk : w[k]? = some c) (hQ : Q (nI c) ν) : xw_J6_charAt a (nI k) ν Q := by
  obtain ⟨h1, h2, ⟨va, h3, h4, h5, h6⟩, h7, h8⟩ := h
  have hkl := (List.getElem?_eq_some_iff.mp hk).1
  have hc := h8 c (List.mem_of_getElem? hk)
  unfold xw_J6_charAt xw_J6_isLatin1
  refine ⟨h1, fun z => absurd z (by decide), fun _ => ⟨h1, fun z => absurd h2 z, fun _ => ⟨fun z => absurd z (by decide), fun _ => ⟨h1, va, h3, ?_⟩⟩⟩⟩
  unfold xw_J9_charAt xw_J6_checkIndex
  rw [h5]
  refine ⟨h4, fun b1 => xl_ci hkl (by omega) ⟨h4, ?_, ?_⟩⟩
  · rw [h5]; exact vp_in_nI hkl (by omega)
  · rw [nI_clamp (by omega), h6 k c hk, (char_ok c hc).1]
    exact ⟨(char_ok c hc).2, (char_ok c hc).2, hQ⟩
theorem xl_nLetter {ν : XN} {a sa k cl : Nat} {w : List Nat} {Q : Int32 → XN → Prop} (hcl : cl = 8 ∨ cl = 9) (hr : rc ν.2 a = cl) (hs : rO ν.2 a 0 = some sa) (h : SRep ν.2 sa w) (hl : ∀ c ∈ w, 97 ≤ c ∧ c ≤ 122) (hk : k < 1000) (hQ : Q (match w[k]? with | some c => nI (c - 96) | none => nI 0) ν) : xw_X7_letter a (nI k) ν Q := by
  have hr2 : rc ν.2 a = 8 ∨ rc ν.2 a = 9 := by rw [hr]; exact hcl
  have hw := h.2.2.2.1
  unfold xw_X7_letter
  refine ⟨hr2, sa, hs, h.1, xl_sLen h ?_⟩
  rw [nI_leI (by omega) (by omega)]
  refine ⟨fun z => ?_, fun z => ⟨hr2, sa, hs, h.1, ?_⟩⟩
  · rw [List.getElem?_eq_none z] at hQ; exact hQ
  · have hx := List.getElem?_eq_getElem (show k < w.length by omega)
    rw [hx] at hQ
    refine xl_sAt h hx ?_
    have := hl _ (List.mem_of_getElem? hx)
    rw [i_97, i_1, pk_sub this.1, nI_add]
    rw [show w[k] - 97 + 1 = w[k] - 96 by omega]
    exact hQ
theorem xq_letter {ν : XN} {Z : Wd} {x y k : Int32} {Q : Int32 → XN → Prop} (h : xAll ν Z) (hQ : Q (opLetter Z x y k) ν) : xw_X0_letter x y k ν Q := by
  obtain ⟨b, hb, hs⟩ := h.pb
  have hn := h.1.np
  have hnm := h.1.2.2.2.2.2.2.2.2.2.2.2
  unfold xw_X0_letter
  unfold opLetter at hQ
  refine xl_is (n := 6) (by decide) (fun j j1 j2 j3 => ⟨fun z => absurd z (by decide), fun _ => ?_⟩) (fun j1 => ⟨fun _ => ?_, fun z => absurd rfl z⟩)
  · subst j3
    refine xl_is (n := 2) (by decide) (fun a a1 a2 a3 => ⟨fun z => absurd z (by decide), fun _ => ?_⟩) (fun a1 => ⟨fun _ => ?_, fun z => absurd rfl z⟩)
    · subst a3
      simp only [a1, j1] at hQ
      have go : ∀ (ws : List (List Nat)) (la cl : Nat), (cl = 8 ∨ cl = 9) → ws.length ≤ 7 → xNl ν.2 la cl ws → (∀ w ∈ ws, nmOK w) → Q (match ix y ws.length with | some i => (match ws[i]? with | some w => (match w[j]? with | some c => nI (c - 96) | none => nI 0) | none => M1) | none => M1) ν → (0 : Int32) ≤ y → xw_X0_letter_45 y (nI j) (some la) ν Q := by
        intro ws la cl hcl hl7 hN hw hq hy
        obtain ⟨as, l1, l2, l3⟩ := hN
        unfold xw_X0_letter_45
        refine ⟨la, rfl, l1.1, xl_size l1 ?_⟩
        rcases ix_cases y ws.length with ⟨i, e1, e2, e3⟩ | ⟨e1, e2⟩
        · subst e3
          have hx := List.getElem?_eq_getElem e2
          simp only [e1, hx] at hq
          obtain ⟨a', sa, y1, y2, y3, y4⟩ := l3 _ _ hx
          rw [nI_leI (by omega) (by omega)]
          refine ⟨fun z => by omega, fun _ => ⟨l1.1, xl_get l1 y1 ⟨a', rfl, by rw [y2]; exact hcl, by rw [y2]; exact hcl, ?_⟩⟩⟩
          exact xl_nLetter hcl y2 y3 y4 (hw _ (List.mem_of_getElem? hx)).2.2 (by omega) hq
        · simp only [e1] at hq
          refine ⟨fun _ => hq, fun z => ?_⟩
          exfalso
          rw [Int32.le_iff_toInt_le, nI_toInt (by omega)] at z
          rw [Int32.le_iff_toInt_le] at hy
          have e0 : (0 : Int32).toInt = 0 := rfl
          omega
      refine ⟨fun z => ⟨fun z1 => ?_, fun z1 => ?_⟩, fun z => ?_⟩
      · rw [i_0, nI_eq (by omega) (by omega)] at z1
        obtain ⟨lp, p1, p2⟩ := hs.2.2.2.1
        refine ⟨b, hb.1, hb.2.1, ?_⟩
        rw [p1]
        rw [if_neg z1, if_neg z1] at hQ
        exact go _ lp 9 (Or.inr rfl) hn.1 p2 (fun w hw => hnm w (Or.inr hw)) hQ z
      · rw [i_0, nI_eq (by omega) (by omega)] at z1
        obtain ⟨lp, p1, p2⟩ := hs.2.2.1
        refine ⟨b, hb.1, hb.2.1, ?_⟩
        rw [p1]
        rw [if_pos z1, if_pos z1] at hQ
        exact go _ lp 8 (Or.inl rfl) (by have := hn.2.1; unfold nT at this; omega) p2 (fun w hw => hnm w (Or.inl hw)) hQ z
      · have hnone : ∀ n, ix y n = none := by
          intro n
          rcases ix_cases y n with ⟨i, e1, e2, e3⟩ | ⟨e1, e2⟩
          · exfalso
            apply z
            rw [Int32.le_iff_toInt_le]
            unfold ix at e1
            split at e1
            · rename_i q; exact q.1
            · cases e1
          · exact e1
        rw [hnone] at hQ; exact hQ
    · simp only [a1, j1] at hQ; exact hQ
  · cases hx2 : ix x 2 with
    | none => simp only [hx2] at hQ; exact hQ
    | some a => simp only [hx2, j1] at hQ; exact hQ
