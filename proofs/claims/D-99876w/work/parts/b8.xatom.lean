/-! THE SYSTEM: parts of sums -/
theorem pB_inlR {α β : Type} (x : α) (b : Nat) (f : α → Nat → PR β) : pB (.inl (x, b)) f = f x b := rfl
theorem wIx_at : ∀ i, i < 11 → wIx (str (91 + i)) = i := by decide
theorem wIx_none {w : List Nat} (h : ∀ i, i < 11 → str (91 + i) ≠ w) : wIx w = 11 := by
  have key : ∀ l : List Nat, (∀ i ∈ l, i < 11) → l.foldr (fun i r => if str (91 + i) = w then i else r) 11 = 11 := by
    intro l
    induction l with
    | nil => intro _; rfl
    | cons i l ih =>
      intro hl
      rw [List.foldr_cons, if_neg (h i (hl i List.mem_cons_self))]
      exact ih (fun j hj => hl j (List.mem_cons_of_mem _ hj))
  exact key _ (fun i hi => List.mem_range.mp hi)
theorem cW_mm : cW 14 = str 89 ∧ cW 15 = str 90 ∧ (∀ i, i < 11 → str (91 + i) ≠ str 89 ∧ str (91 + i) ≠ str 90) ∧ str 89 ≠ str 90 := by decide
theorem cT_1 : ∀ i, i < 9 → (cT 1)[i]? = some (str (91 + i)) := by decide
theorem cT_2 : ∀ i, i < 2 → (cT 2)[i]? = some (str (100 + i)) := by decide
theorem cT_l : (cT 1).length = 9 ∧ (cT 2).length = 2 := by decide
/-- which parts may be named, by the context's number -/
def cxOK (al : Nat → Bool) (cx : Nat) : Prop := cx < 1024 ∧ (∀ i, i < 9 → ((cx / 2 ^ i % 2 = 1) ↔ al i = true)) ∧ (cx = 463 → al 9 = true ∧ al 10 = true) ∧ (cx ≠ 463 → al 9 = false ∧ al 10 = false)
theorem cx_1 : cxOK al1 63 := ⟨by decide, by decide, (fun h => by cases h), fun _ => ⟨rfl, rfl⟩⟩
theorem cx_0 : cxOK al0 31 := ⟨by decide, by decide, (fun h => by cases h), fun _ => ⟨rfl, rfl⟩⟩
theorem cx_2 : cxOK al2 463 := ⟨by decide, by decide, fun _ => ⟨rfl, rfl⟩, fun h => absurd rfl h⟩
def ATr : Nat → XN → Nat → Nat → (Nat → XN → Prop) → (XN → Prop) → Prop
  | 0 => xw_X2_atom (fun _ _ _ _ _ => False)
  | r + 1 => xw_X2_atom (ATr r)
theorem wiS_0 {rec : Option (Nat → PR (List Nat))} {al : Nat → Bool} {t : Nat → Nat} {e a : Nat} (h : bt t e (lk t e a) = 40) : pAtomG al rec t e a = wiS 0 rec t e a := by
  unfold pAtomG wiS
  rw [if_pos h, if_pos h]
  cases rec with
  | none => rfl
  | some AT => rfl
theorem wiS_2 {rec : Option (Nat → PR (List Nat))} {w : List Nat} {t : Nat → Nat} {e b : Nat} (hw : w = str 89 ∨ w = str 90) : (if bt t e (lk t e b) = 40 then (match rec with
        | none => .inr (4, lk t e b)
        | some AT => pB (pSum AT t e (lk t e b + 1)) (fun cs b1 => pB (pSign 44 t e b1) (fun _ b2 => pB (pSum AT t e b2) (fun ds b3 => pB (pSign 41 t e b3) (fun _ b4 => .inl (cs ++ ds ++ [if w = str 89 then 5 else 6], b4))))))
      else .inr (1, lk t e b) : PR (List Nat)) = wiS (if w = str 89 then 1 else 2) rec t e b := by
  unfold wiS
  by_cases z : bt t e (lk t e b) = 40
  · rw [if_pos z, if_pos z]
    cases rec with
    | none => rfl
    | some AT =>
      rcases hw with rfl | rfl
      · rfl
      · have : ¬ str 90 = str 89 := fun h => cW_mm.2.2.2 h.symm
        simp only [if_neg this]
        rfl
  · rw [if_neg z, if_neg z]
theorem wiS_le {al : Nat → Bool} {two r : Nat} {t : Nat → Nat} {e a b : Nat} {cs : List Nat} (ha : a ≤ e) (hs : wiS two (recA al t e r) t e a = .inl (cs, b)) : a < b ∧ b ≤ e := by
  obtain ⟨n1, n2, -, -⟩ := lk_spec (t := t) ha
  have lt : ∀ c x, c < 999 → bt t e x = c → x < e := fun c x hc h => by
    unfold bt at h
    split at h
    · assumption
    · omega
  have sg : ∀ c x u y, c < 999 → x ≤ e → pSign c t e x = .inl (u, y) → x < y ∧ y ≤ e := fun c x u y hc hx h => by
    unfold pSign at h
    split at h
    · rename_i z
      cases h
      have h1 := lt c _ hc z
      have h2 := (lk_spec (t := t) hx).1
      omega
    · cases h
  unfold wiS at hs
  split at hs
  · rename_i z40
    have hlt := lt 40 _ (by decide) z40
    cases r with
    | zero => cases hs
    | succ r =>
      simp only [recA] at hs
      have hadv := adv_sum (t := t) (adv_atom al t e r)
      obtain ⟨xx, bb, y1, y2⟩ := pB_ok hs
      have y3 := hadv _ xx bb (by omega) y1
      split at y2
      · obtain ⟨uu, b9, y5, y6⟩ := pB_ok y2
        cases y6
        have := sg 41 _ _ _ (by decide) y3.2 y5
        omega
      · obtain ⟨uu, b9, y5, y6⟩ := pB_ok y2
        have h5 := sg 44 _ _ _ (by decide) y3.2 y5
        obtain ⟨ds', b10, y7, y8⟩ := pB_ok y6
        have y9 := hadv _ ds' b10 (by omega) y7
        obtain ⟨u2, b11, y10, y11⟩ := pB_ok y8
        cases y11
        have := sg 41 _ _ _ (by decide) y9.2 y10
        omega
  · cases hs
theorem xl_atomG {al : Nat → Bool} {b0 e r cx : Nat} {t : Nat → Nat} {AT : XN → Nat → Nat → (Nat → XN → Prop) → (XN → Prop) → Prop} (hcx : cxOK al cx) (hr6 : r ≤ 6) (hAT : ∀ r', r = r' + 1 → ElL al b0 (3 * r' + 1) t e r' cx 20 150 60 1000 (pAtom al t e r') AT) : ElL al b0 (3 * r + 1) t e r cx 20 150 60 1000 (pAtomG al (recA al t e r) t e) (xw_X2_atom AT) := by
  have hS : ∀ r', r = r' + 1 → ElL al b0 (3 * r' + 3) t e r' cx 6 56 74 1094 (pSum (pAtom al t e r') t e) (xw_X2_sum AT) := by
    intro r' hr
    have h1 := xl_productV (hAT r' hr) (adv_atom al t e r') (by decide) (by decide) (by decide) (by decide)
    exact xl_sumV h1 (adv_prod (adv_atom al t e r')) (by decide) (by decide) (by decide) (by decide)
  have hW : ∀ two, two < 3 → ElL al b0 (3 * r + 1) t e r cx 100 500 20 700 (wiS two (recA al t e r) t e) (xw_X2_within AT (nI two)) := fun two h2 => xl_within h2 hS
  intro ν a k n Q E hR hb1 hb2 hQ hE
  have hT := hR.1
  have ha : a ≤ e := hT.2.2.2.1
  have he : e ≤ 1600 := hT.2.2.1
  obtain ⟨l1, l2, l3, l4⟩ := lk_spec (t := t) ha
  have T1 := hT.mv l2
  have x1 : XTt ν.1 (sI ν.1 1 2 (nI (lk t e a))) := XTt.at _ _
  have R1 : Rd (sI ν.1 1 2 (nI (lk t e a)), ν.2) t e (lk t e a) r cx b0 := hR.mv (ν' := (sI ν.1 1 2 (nI (lk t e a)), ν.2)) x1 (Old.refl _) T1
  unfold xw_X2_atom
  refine xl_here hT ?_
  rw [i_40, byX_eq (fun z => hT.t z) (by decide)]
  refine ⟨fun z => ?_, fun z => ?_⟩
  · -- no bracket
    refine xl_here T1 ?_
    rw [lk_lk ha]
    show xw_X0_isDigit _ (sI (sI ν.1 1 2 (nI (lk t e a))) 1 2 (nI (lk t e a)), ν.2) _
    rw [up2_2]
    refine xl_digit (fun z => hT.t z) ?_
    unfold pAtomG at hb1 hb2 hQ hE
    rw [if_neg z] at hb1 hb2 hQ hE
    by_cases hd : isDg (bt t e (lk t e a)) = true
    · rw [if_pos hd] at hb1 hb2 hQ hE ⊢
      refine ⟨fun q => absurd q (by decide), fun _ => ?_⟩
      have hkn : 1 ≤ k ∧ 1 ≤ n := by
        cases hs : pNum 0 9999 t e a with
        | inl cb =>
          obtain ⟨v, b⟩ := cb
          have h1 := hb1 _ _ (show pB (pNum 0 9999 t e a) _ = _ by rw [hs]; rfl)
          have : a < b := by
            unfold pNum at hs
            split at hs
            · split at hs
              · cases hs
              · split at hs
                · cases hs
                  obtain ⟨w1, -, -⟩ := dE_spec (t := t) l2
                  have hlt : lk t e a < e := by
                    unfold bt at hd
                    split at hd
                    · assumption
                    · exact absurd hd (by decide)
                  have h5 : dE t e (lk t e a) = dE t e (lk t e a + 1) := run_go hlt (by rw [bt_at hlt] at hd; exact hd)
                  have h6 := (dE_spec (t := t) (show lk t e a + 1 ≤ e by omega)).1
                  omega
                · cases hs
            · cases hs
          omega
        | inr q =>
          have h1 := hb2 _ (show pB (pNum 0 9999 t e a) _ = _ by rw [hs]; rfl)
          omega
      refine ⟨k - 1, n - 1, by omega, by omega, fun q30 hq30 ν32 e32 => ?_⟩
      have f32 : ν32.1 = sI ν.1 1 2 (nI (lk t e a)) := by rw [e32]
      have k32 : rk ν32.2 q30 = 14 := by rw [e32]; show rk (tN ν.2 q30 14 0) q30 = 14; rw [rk_tN, if_pos rfl]
      have c32 : Chg (fun y => y = q30) ν.2 ν32.2 := by rw [e32]; exact Chg.tN _ _ _ hq30
      clear e32
      have hq0 : rk ν.2 q30 = 0 := hq30
      have o32 : Old ν.2 ν32.2 := (Old.refl _).chg c32 (fun y hy => by rw [hy]; exact hq0)
      have T32 : Tk ν32.1 t e (lk t e a) := by rw [f32]; exact T1
      have pl : ∀ lo hi, pNum lo hi t e (lk t e a) = pNum lo hi t e a := fun lo hi => by unfold pNum; rw [lk_lk ha]
      refine xl_number (lo := 0) (hi := 9999) T32 (by decide) (by decide) (fun ν38 v b hs hv hb f38 g38 T38 _ => ?_) (fun ν38 q hs f38 g38 d38 => ?_)
      · rw [pl, lk_lk ha] at hs
        unfold xw_X13_init xw_X10_init
        have k38 : rk ν38.2 q30 = 14 := by rw [g38]; exact k32
        refine ⟨k38, ?_⟩
        intro ν40 e40
        have c40 : Chg (fun y => y = q30) ν38.2 ν40.2 := by rw [e40]; exact Chg.tL _ _ _ rfl
        have V : VTs al b0 (3 * r + 1) (fun y => y = q30) ν40.2 q30 [1000 + v] := by
          refine ⟨fun y hy => by rw [hy, e40]; show rk ν38.2 q30 ≠ 0; rw [k38]; decide, fun ρ' hs' => ?_⟩
          have eq := hs' q30 rfl
          refine Or.inl ⟨rcO (by rw [eq.1, e40]; exact k38) (by decide), v, hv, rfl, ?_⟩
          rw [eq.2.2.2.1, e40]
          show rL (tL ν38.2 q30 0 (Int32.toInt64 (nI v))) q30 0 = _
          rw [rL_tL, if_pos ⟨rfl, rfl⟩, nI_toL (by omega)]
        refine hQ ν40 q30 _ _ _ (by rw [hs]; rfl) ?_ ?_ ?_ V (fun y hy => by rw [hy]; exact hq0)
        · rw [e40]; show XTt ν.1 ν38.1; exact x1.trans (by rw [← f32]; exact f38)
        · refine (o32.trans (Old.eq g38)).chg c40 (fun y hy => by rw [hy]; exact hq0)
        · rw [e40]; exact T38
      · rw [pl] at hs
        refine hE ν38 q (by rw [hs]; rfl) ?_ (o32.trans (Old.eq g38)) d38
        exact x1.r.trans (by rw [← f32]; exact f38.r)
    · rw [if_neg hd] at hb1 hb2 hQ hE ⊢
      refine ⟨fun _ => ?_, fun q => absurd rfl q⟩
      -- a word
      have pw : pWord t e (lk t e a) = pWord t e a := by unfold pWord; rw [lk_lk ha]
      by_cases hL : isLt (bt t e (lk t e a)) = true ∧ prt t (lk t e a) = false
      · have hw : pWord t e a = .inl ((wd t (lk t e a) (wE t e (lk t e a)), lk t e a), wE t e (lk t e a)) := by unfold pWord; rw [if_pos hL]
        rw [hw] at hb1 hb2 hQ hE
        simp only [pB_inlR] at hb1 hb2 hQ hE
        obtain ⟨w1, w2, w3, w4⟩ := wE_spec hL.1
        generalize hW0 : wd t (lk t e a) (wE t e (lk t e a)) = w at *
        generalize hB : wE t e (lk t e a) = B at *
        -- what is left behind the word
        have hkn : 60 * (B - a) ≤ k + 20 ∧ 400 * (B - a) ≤ n + 150 := by
          cases hs : (if wIx w < 9 ∧ al (wIx w) = true then Sum.inl ([40 + wIx w], B) else if 9 ≤ wIx w ∧ wIx w < 11 ∧ al (wIx w) = true then (match recA al t e r with
      | none => .inr (4, lk t e a)
      | some AT => pB (AT B) (fun cs b2 => .inl (cs ++ [51 + wIx w], b2)))
    else if w = str 89 ∨ w = str 90 then (if bt t e (lk t e B) = 40 then (match recA al t e r with
        | none => .inr (4, lk t e B)
        | some AT => pB (pSum AT t e (lk t e B + 1)) (fun cs b1 => pB (pSign 44 t e b1) (fun _ b2 => pB (pSum AT t e b2) (fun ds b3 => pB (pSign 41 t e b3) (fun _ b4 => .inl (cs ++ ds ++ [if w = str 89 then 5 else 6], b4))))))
      else .inr (1, lk t e B))
    else .inr (1, lk t e a) : PR (List Nat)) with
          | inr q =>
            have := hb2 q hs
            omega
          | inl cb =>
            obtain ⟨cs, b⟩ := cb
            have h1 := hb1 cs b hs
            have h2 : B ≤ b := by
              split at hs
              · cases hs; omega
              · split at hs
                · cases hrc : recA al t e r with
                  | none => rw [hrc] at hs; cases hs
                  | some AT' =>
                    rw [hrc] at hs
                    obtain ⟨xx, bb, y1, y2⟩ := pB_ok hs
                    cases y2
                    have hadv : adv e AT' := by
                      cases r with
                      | zero => cases hrc
                      | succ r' => cases hrc; exact adv_atom al t e r'
                    have := (hadv B xx b w2 y1).1.1
                    omega
                · split at hs
                  · rename_i hmm
                    rw [wiS_2 hmm] at hs
                    have := wiS_le w2 hs
                    omega
                  · cases hs
            omega
        refine ⟨3, 2 * (B - lk t e a) + 4, k - 3, n - (2 * (B - lk t e a) + 4), by omega, by omega, ?_⟩
        refine xl_word T1 (fun _ => by omega) (fun _ => by rw [lk_lk ha, hB]; omega) (fun ν7 rr _ _ f7 o7 T7 fr7 s7 k7 z7 _ => ?_) (fun ν7 hno => ?_)
        · rw [lk_lk ha] at T7 fr7 s7
          rw [hB] at T7 s7
          rw [hW0] at s7
          have xw7 : XTt ν.1 ν7.1 := x1.trans f7
          have R7 : Rd ν7 t e B r cx b0 := hR.mv xw7 o7 T7
          have hz7 : ∀ y, rk ν7.2 y = 0 → rk ν.2 y = 0 := fun y hy => o7.z hy
          -- min, max, or nothing known
          have third : ¬ (wIx w < 9 ∧ al (wIx w) = true) → ¬ (9 ≤ wIx w ∧ wIx w < 11 ∧ al (wIx w) = true) → xw_X2_atom_101 AT rr (-1) ν7 (k - 3) (n - (2 * (B - lk t e a) + 4)) Q E := by
            intro hA1 hA2
            rw [if_neg hA1, if_neg hA2] at hb1 hb2 hQ hE
            obtain ⟨mA, m1, m2⟩ := R7.2.2.2.1.1 14 (by decide)
            obtain ⟨xA, y1, y2⟩ := R7.2.2.2.1.1 15 (by decide)
            rw [cW_mm.1] at m2
            rw [cW_mm.2.1] at y2
            have win : ∀ two, two < 3 → (w = str 89 ∨ w = str 90) → (if w = str 89 then 1 else 2) = two → xw_X2_atom_159 AT (nI two) ν7 (k - 3) (n - (2 * (B - lk t e a) + 4)) Q E := by
              intro two ht hmm htw
              rw [if_pos hmm] at hb1 hb2 hQ hE
              have eqw := wiS_2 (rec := recA al t e r) (t := t) (e := e) (b := B) hmm
              rw [htw] at eqw
              unfold xw_X2_atom_159
              refine ⟨k - 3, n - (2 * (B - lk t e a) + 4), 0, 0, by omega, by omega, ?_⟩
              refine hW two ht _ _ _ _ _ _ R7 (fun cs b hh => ?_) (fun q hh => ?_) (fun ν' x N cs b hh f o T V zz => ?_) (fun ν' q hh f o dd => ?_)
              · have h1 := hb1 cs b (eqw.trans hh)
                have h2 := wiS_le w2 hh
                omega
              · have := hb2 q (eqw.trans hh)
                omega
              · exact hQ ν' x N cs b (eqw.trans hh) (xw7.trans f) (o7.trans o) T V (fun y hy => hz7 y (zz y hy))
              · exact hE ν' q (eqw.trans hh) (xw7.r.trans f) (o7.trans o) dd
            unfold xw_X2_atom_101
            refine ⟨fun _ => ?_, fun q => absurd rfl q⟩
            intro b53 hb53
            have e53 : b53 = mA := by rw [m1] at hb53; cases hb53; rfl
            subst e53
            refine ⟨s7.1, xl_eq s7 m2 ?_⟩
            by_cases h89 : w = str 89
            · rw [if_pos h89]
              refine ⟨fun _ => ?_, fun q => absurd q (by decide)⟩
              unfold xw_X2_atom_143
              intro b74 hb74
              have e74 : b74 = b53 := by rw [m1] at hb74; cases hb74; rfl
              subst e74
              refine ⟨s7.1, xl_eq s7 m2 ?_⟩
              rw [if_pos h89]
              exact ⟨fun q => absurd q (by decide), fun _ => win 1 (by decide) (Or.inl h89) (by rw [if_pos h89])⟩
            · rw [if_neg h89]
              refine ⟨fun q => absurd rfl q, fun _ => ?_⟩
              intro b58 hb58
              have e58 : b58 = xA := by rw [y1] at hb58; cases hb58; rfl
              subst e58
              refine ⟨s7.1, xl_eq s7 y2 ?_⟩
              by_cases h90 : w = str 90
              · rw [if_pos h90]
                refine ⟨fun _ => ?_, fun q => absurd q (by decide)⟩
                unfold xw_X2_atom_143
                intro b74 hb74
                have e74 : b74 = b53 := by rw [m1] at hb74; cases hb74; rfl
                subst e74
                refine ⟨s7.1, xl_eq s7 m2 ?_⟩
                rw [if_neg h89]
                exact ⟨fun _ => win 2 (by decide) (Or.inr h90) (by rw [if_neg h89]), fun q => absurd rfl q⟩
              · rw [if_neg h90]
                refine ⟨fun q => absurd rfl q, fun _ => ?_⟩
                rw [if_neg (by rw [not_or]; exact ⟨h89, h90⟩)] at hE
                rw [fr7]
                exact xl_wrong (fun ν' f g dd => hE ν' _ rfl (xw7.r.trans f.r) (o7.trans (Old.eq g)) dd)
          -- knows, lifts
          have lkd : ∀ j, j < 2 → wIx w = 9 + j → al (9 + j) = true → xw_X2_looked AT (nI j) ν7 (k - 3) (n - (2 * (B - lk t e a) + 4)) (fun r67 ν66 => Q r67 ν66) E := by
            intro j hj hw9 hal
            rw [hw9, if_neg (by omega), if_pos ⟨by omega, by omega, hal⟩] at hb1 hb2 hQ hE
            unfold xw_X2_looked
            rw [fr7]
            refine xl_opens (r := r) R7.2.1.1 R7.2.1.2 (fun ν1' hr e1' g1' => ?_) (fun ν1' hr f1' g1' d1' => ?_)
            · obtain ⟨r', rfl⟩ : ∃ r', r = r' + 1 := ⟨r - 1, by omega⟩
              have hA := hAT r' rfl
              simp only [recA] at hb1 hb2 hQ hE
              have e1' : ν1'.1 = sI ν7.1 1 4 (nI (6 - r')) := e1'
              have R8 : Rd ν1' t e B r' cx b0 := R7.op e1' g1'
              refine ⟨k - 4, n - (2 * (B - lk t e a) + 4) - 3, by omega, by omega, fun q2 hq2 ν4 e4 => ?_⟩
              have hq7 : rk ν7.2 q2 = 0 := by rw [← g1']; exact hq2
              have f4 : ν4.1 = ν1'.1 := by rw [e4]
              have k4 : rk ν4.2 q2 = 16 := by rw [e4]; show rk (tN ν1'.2 q2 16 0) q2 = 16; rw [rk_tN, if_pos rfl]
              have c4 : Chg (fun y => y = q2) ν7.2 ν4.2 := by rw [e4, ← g1']; exact Chg.tN _ _ _ hq2
              clear e4
              have o4 : Old ν7.2 ν4.2 := (Old.refl _).chg c4 (fun y hy => by rw [hy]; exact hq7)
              have R4 : Rd ν4 t e B r' cx b0 := R8.mv (by rw [f4]; exact XTt.refl _) (by rw [g1']; exact o4) (by rw [f4]; exact R8.1)
              cases hs : pAtom al t e r' B with
              | inr q =>
                rw [hs] at hb2 hE
                obtain ⟨u1, u2⟩ := hb2 q rfl
                refine ⟨k - 4, n - (2 * (B - lk t e a) + 4) - 3, 0, 0, by omega, by omega, ?_⟩
                refine hA ν4 _ _ _ _ _ R4 (fun cs b hh => by rw [hs] at hh; cases hh) (fun q' hh => ⟨by omega, by omega⟩) (fun ν' x N cs b hh => by rw [hs] at hh; cases hh) (fun ν' q' hh f' o' d' => ?_)
                rw [hs] at hh
                cases hh
                refine hE ν' _ rfl (xw7.r.trans ((XRr.op _ (nI (6 - r'))).trans (σ' := sI ν7.1 1 4 (nI (6 - r'))) ?_)) (o7.trans (o4.trans o')) d'
                rw [f4, e1'] at f'
                exact f'
              | inl cb =>
                obtain ⟨cs, b⟩ := cb
                rw [hs] at hb1 hb2 hQ hE
                simp only [pB] at hb1 hb2 hQ hE
                obtain ⟨u1, u2⟩ := hb1 _ _ rfl
                obtain ⟨⟨v1, -⟩, v3⟩ := adv_atom al t e r' B cs b w2 hs
                refine ⟨k - 4, n - (2 * (B - lk t e a) + 4) - 3, 0, 0, by omega, by omega, ?_⟩
                refine hA ν4 _ _ _ _ _ R4 (fun cs' b' hh => by rw [hs] at hh; cases hh; omega) (fun q' hh => by rw [hs] at hh; cases hh) (fun ν10 x N cs' b' hh f10 o10 T10 V10 z10 => ?_) (fun ν' q' hh => by rw [hs] at hh; cases hh)
                rw [hs] at hh
                cases hh
                have k10 : rk ν10.2 q2 = 16 := by rw [(o10 q2 (by rw [k4]; decide)).1]; exact k4
                have fb : fR ν10.1 901 5 = .ref b0 := by rw [f10.2.2.2.2.2]; exact R4.2.2.2.2
                unfold xw_X15_init xw_X10_init
                refine ⟨k10, fun b4 hb4 νa ea => ?_⟩
                have e4b : b4 = b0 := by rw [fb] at hb4; cases hb4; rfl
                subst e4b
                subst ea
                refine ⟨k10, ?_⟩
                intro νb eb
                subst eb
                refine ⟨k10, ?_⟩
                intro ν18 e18
                have c18 : Chg (fun y => y = q2) ν10.2 ν18.2 := by rw [e18]; exact ((Chg.tO (S := fun y => y = q2) _ _ _ rfl).trans (Chg.tI _ _ _ rfl)).trans (Chg.tO _ _ _ rfl)
                have k18 : rk ν18.2 q2 = 16 := by rw [e18]; exact k10
                have i18 : rI ν18.2 q2 0 = nI j := by rw [e18]; show rI (tI (tO ν10.2 q2 2 (some b4)) q2 0 (nI j)) q2 0 = _; rw [rI_tI, if_pos ⟨rfl, rfl⟩]
                have o18a : rO ν18.2 q2 1 = some x := by rw [e18]; show rO (tO (tI (tO ν10.2 q2 2 (some b4)) q2 0 (nI j)) q2 1 (some x)) q2 1 = _; rw [rO_tO, if_pos ⟨rfl, rfl⟩]
                have o18b : rO ν18.2 q2 2 = some b4 := by rw [e18]; show rO (tO (tI (tO ν10.2 q2 2 (some b4)) q2 0 (nI j)) q2 1 (some x)) q2 2 = _; rw [rO_tO, if_neg (by omega)]; show rO (tO ν10.2 q2 2 (some b4)) q2 2 = _; rw [rO_tO, if_pos ⟨rfl, rfl⟩]
                have f18 : ν18.1 = ν10.1 := by rw [e18]
                clear e18
                intro ν19 e19
                have hN : ∀ y, N y → rk ν10.2 y ≠ 0 ∧ ¬ y = q2 := fun y hy => ⟨V10.1 y hy, fun v => by have := z10 y hy; rw [v, k4] at this; cases this⟩
                have V : VTs al b4 (3 * (r' + 1) + 1) (fun y => N y ∨ y = q2) ν18.2 q2 (cs ++ [51 + (9 + j)]) := by
                  refine ⟨fun y hy => ?_, fun ρ' hs' => ?_⟩
                  · rcases hy with v | v
                    · rw [(c18.1 y (hN y v).1).1]; exact (hN y v).1
                    · rw [v, k18]; decide
                  · have eq := hs' q2 (Or.inr rfl)
                    have h5 : (VT al b4 ρ' (3 * (r' + 1))).1 x cs := (VT.up2 (by omega) _ _).1 (V10.2 ρ' (fun y hy => (c18.2 y (hN y hy).1 (hN y hy).2).trans (hs' y (Or.inl hy))))
                    exact Or.inr (Or.inr (Or.inl ⟨rcO (by rw [eq.1]; exact k18) (by decide), j, x, cs, hj, hal, by rw [show 51 + (9 + j) = 60 + j by omega], by rw [eq.2.2.1]; exact i18, by rw [eq.2.2.2.2]; exact o18a, by rw [eq.2.2.2.2]; exact o18b, h5⟩))
                have zN : ∀ y, (N y ∨ y = q2) → rk ν.2 y = 0 := by
                  intro y hy
                  rcases hy with v | v
                  · exact hz7 y (o4.z (z10 y v))
                  · rw [v]; exact hz7 q2 hq7
                have oF : Old ν.2 ν18.2 := (o7.trans (o4.trans o10)).chg c18 (fun y hy => zN y (Or.inr hy))
                have xF : XTt (sI ν7.1 1 4 (nI (6 - r'))) ν18.1 := by rw [f18, ← e1', ← f4]; exact f10
                have v4 : fI ν18.1 1 4 = nI (6 - r') := by rw [xF.1 1 4 (fun _ => ⟨by decide, by decide⟩) (by decide), fI_sI, if_pos ⟨rfl, rfl⟩]
                have h6 := hR.2.1.2
                refine hQ ν19 q2 _ _ _ rfl ?_ ?_ ?_ (V.mv (by rw [e19]; exact Eqa.refl' _ _)) zN
                · rw [e19]
                  show XTt ν.1 (sI ν18.1 1 4 (fI ν18.1 1 4 - 1))
                  rw [v4, i_1, pk_sub (by omega), show 6 - r' - 1 = 6 - (r' + 1) by omega]
                  exact xw7.trans (xF.re R7.2.1.1)
                · rw [e19]; exact oF
                · rw [e19]
                  show Tk (sI ν18.1 1 4 _) t e b
                  have T18 : Tk ν18.1 t e b := by rw [f18]; exact T10
                  exact T18.to (XRr.op _ _) (by rw [fI_sI, if_neg (by omega)]; exact T18.2.1) T18.2.2.2.1
            · subst hr
              exact hE ν1' _ rfl (xw7.r.trans f1'.r) (o7.trans (Old.eq g1')) d1'
          -- behind the parts
          have a80 : ¬ (wIx w < 9 ∧ al (wIx w) = true) → xw_X2_atom_80 AT rr ν7 (k - 3) (n - (2 * (B - lk t e a) + 4)) Q E := by
            intro hA1
            unfold xw_X2_atom_80
            rw [R7.2.2.1]
            have hc := hcx.1
            have e463 : (nI cx = (463 : Int32)) = (cx = 463) := by rw [i_463, nI_eq (by omega) (by omega)]
            rw [e463]
            refine ⟨fun q => third hA1 (fun v => ?_), fun q => ?_⟩
            · have := hcx.2.2.2 q
              rcases (show wIx w = 9 ∨ wIx w = 10 by omega) with u | u <;> rw [u] at v
              · rw [this.1] at v; cases v.2.2
              · rw [this.2] at v; cases v.2.2
            · have hal := hcx.2.2.1 q
              intro b49 hb49
              obtain ⟨A2, a1, a2⟩ := R7.2.2.2.1.2.1 2 (by decide)
              have e49 : b49 = A2 := by rw [a1] at hb49; cases hb49; rfl
              subst e49
              refine xl_find s7 a2 (by rw [cT_l.2]; decide) (fun j hj _ => ?_) (fun hno => third hA1 (fun v => ?_))
              · have hj2 : j < 2 := by have := (List.getElem?_eq_some_iff.mp hj).1; rw [cT_l.2] at this; exact this
                rw [cT_2 j hj2] at hj
                have hw9 : wIx w = 9 + j := by
                  cases hj
                  rw [show 100 + j = 91 + (9 + j) by omega]
                  exact wIx_at (9 + j) (by omega)
                unfold xw_X2_atom_101
                refine ⟨fun v => ?_, fun _ => ⟨k - 3, n - (2 * (B - lk t e a) + 4), 0, 0, by omega, by omega, lkd j hj2 hw9 ?_⟩⟩
                · have : nI j = M1 := v
                  rw [nI_m1 (by omega)] at this; exact this.elim
                · rcases (show j = 0 ∨ j = 1 by omega) with rfl | rfl
                  · exact hal.1
                  · exact hal.2
              · have h5 := wIx_str v.2.1
                have h6 := hno (wIx w - 9)
                rw [cT_2 _ (by omega)] at h6
                apply h6
                rw [show 100 + (wIx w - 9) = 91 + wIx w by omega, h5]
          intro b15 hb15
          obtain ⟨A1, a1, a2⟩ := R7.2.2.2.1.2.1 1 (by decide)
          have e15 : b15 = A1 := by rw [a1] at hb15; cases hb15; rfl
          subst e15
          refine xl_find s7 a2 (by rw [cT_l.1]; decide) (fun i hi _ => ?_) (fun hno => ⟨fun _ => a80 (fun v => ?_), fun q => absurd rfl q⟩)
          · have hi9 : i < 9 := by have := (List.getElem?_eq_some_iff.mp hi).1; rw [cT_l.1] at this; exact this
            rw [cT_1 i hi9] at hi
            have hwi : wIx w = i := by
              cases hi
              exact wIx_at i (by omega)
            refine ⟨fun q => ?_, fun _ => ?_⟩
            · have : nI i = M1 := q
              rw [nI_m1 (by omega)] at this; exact this.elim
            rw [R7.2.2.1]
            have hc := hcx.1
            refine xl_has (by omega) (by omega) (fun v => ⟨fun q => absurd q (by decide), fun _ => ?_⟩) (fun v => ⟨fun _ => a80 (fun u => ?_), fun q => absurd rfl q⟩)
            · have hal := (hcx.2.1 i hi9).mp v
              rw [hwi, if_pos ⟨hi9, hal⟩] at hb1 hQ
              refine ⟨k - 4, n - (2 * (B - lk t e a) + 4) - 1, by omega, by omega, fun q21 hq21 ν23 e23 => ?_⟩
              have k23 : rk ν23.2 q21 = 15 := by rw [e23]; show rk (tN ν7.2 q21 15 0) q21 = 15; rw [rk_tN, if_pos rfl]
              have c23 : Chg (fun y => y = q21) ν7.2 ν23.2 := by rw [e23]; exact Chg.tN _ _ _ hq21
              have f23 : ν23.1 = ν7.1 := by rw [e23]
              clear e23
              unfold xw_X14_init xw_X10_init
              refine ⟨k23, ?_⟩
              intro ν29 e29
              have c29 : Chg (fun y => y = q21) ν7.2 ν29.2 := by rw [e29]; exact c23.trans (Chg.tI _ _ _ rfl)
              have V : VTs al b0 (3 * r + 1) (fun y => y = q21) ν29.2 q21 [40 + i] := by
                refine ⟨fun y hy => by rw [hy, e29]; show rk ν23.2 q21 ≠ 0; rw [k23]; decide, fun ρ' hs' => ?_⟩
                have eq := hs' q21 rfl
                refine Or.inr (Or.inl ⟨rcO (by rw [eq.1, e29]; exact k23) (by decide), i, hi9, hal, rfl, ?_⟩)
                rw [eq.2.2.1, e29]
                show rI (tI ν23.2 q21 0 (nI i)) q21 0 = _
                rw [rI_tI, if_pos ⟨rfl, rfl⟩]
              refine hQ ν29 q21 _ _ _ rfl ?_ ?_ ?_ V (fun y hy => by rw [hy]; exact hz7 q21 hq21)
              · rw [e29]; show XTt ν.1 ν23.1; rw [f23]; exact xw7
              · exact o7.chg c29 (fun y hy => by rw [hy]; exact hz7 q21 hq21)
              · rw [e29]; show Tk ν23.1 t e B; rw [f23]; exact T7
            · rw [hwi] at u
              exact v ((hcx.2.1 i hi9).mpr u.2)
          · have h5 := wIx_str (show wIx w < 11 by omega)
            have h6 := hno (wIx w)
            rw [cT_1 _ v.1] at h6
            exact h6 (by rw [h5])
        · rw [lk_lk ha] at hno; exact absurd hL hno
      · have hw : pWord t e a = .inr (1, lk t e a) := by unfold pWord; rw [if_neg hL]
        rw [hw] at hb2 hE
        simp only [pB] at hb2 hE
        obtain ⟨w1, w2⟩ := hb2 _ rfl
        have hwl : ∀ x, lk t e a = x → wE t e x - x ≤ e - a := fun x hx => by
          have := (run_spec isLt t e _ x rfl (by omega)).2.1
          show run isLt t e x - x ≤ _
          omega
        refine ⟨k, n, 0, 0, by omega, by omega, ?_⟩
        refine xl_word T1 (fun _ => by omega) (fun _ => by rw [lk_lk ha]; have := hwl _ rfl; omega) (fun ν7 rr h1 h2 => ?_) (fun ν7 hno f7 g7 d7 => ?_)
        · rw [lk_lk ha] at h1 h2; exact absurd ⟨h1, h2⟩ hL
        · rw [lk_lk ha] at d7
          exact hE ν7 _ rfl (x1.r.trans f7.r) (Old.eq g7) d7
  · rw [wiS_0 z] at hb1 hb2 hQ hE
    refine ⟨k, n, 0, 0, by omega, by omega, ?_⟩
    have wl : wiS 0 (recA al t e r) t e (lk t e a) = wiS 0 (recA al t e r) t e a := by unfold wiS; rw [lk_lk ha]
    refine hW 0 (by decide) _ _ k n _ _ R1 (fun cs b hh => ?_) (fun q hh => ?_) (fun ν' x N cs b hh f o T V zz => ?_) (fun ν' q hh f o dd => ?_)
    · rw [wl] at hh
      have := hb1 cs b hh
      omega
    · rw [wl] at hh
      have := hb2 q hh
      omega
    · rw [wl] at hh
      exact hQ ν' x N cs b hh (x1.trans f) o T V zz
    · rw [wl] at hh
      exact hE ν' q hh (x1.r.trans f) o dd
theorem xl_atomV {al : Nat → Bool} {b0 e cx : Nat} {t : Nat → Nat} (hcx : cxOK al cx) : ∀ r, r ≤ 6 → ElL al b0 (3 * r + 1) t e r cx 20 150 60 1000 (pAtom al t e r) (ATr r)
  | 0, h => by
    rw [pAtom_rec]
    exact xl_atomG hcx h (fun r' hr => by cases hr)
  | r + 1, h => by
    rw [pAtom_rec]
    exact xl_atomG hcx h (fun r' hr => by
      have : r' = r := by omega
      subst this
      exact xl_atomV hcx r' (by omega))
theorem xl_sumAll {al : Nat → Bool} {b0 e cx r : Nat} {t : Nat → Nat} (hcx : cxOK al cx) (hr : r ≤ 6) : ElL al b0 (3 * r + 3) t e r cx 6 56 74 1094 (pSum (pAtom al t e r) t e) (xw_X2_sum (ATr r)) := by
  have h1 := xl_productV (xl_atomV (b0 := b0) (t := t) (e := e) hcx r hr) (adv_atom al t e r) (by decide) (by decide) (by decide) (by decide)
  exact xl_sumV h1 (adv_prod (adv_atom al t e r)) (by decide) (by decide) (by decide) (by decide)
