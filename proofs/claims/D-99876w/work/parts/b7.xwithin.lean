/-! THE SYSTEM: what stands in brackets -/
def recA (al : Nat → Bool) (t : Nat → Nat) (e : Nat) : Nat → Option (Nat → PR (List Nat))
  | 0 => none
  | r + 1 => some (pAtom al t e r)
theorem pAtom_rec (al : Nat → Bool) (t : Nat → Nat) (e r : Nat) : pAtom al t e r = pAtomG al (recA al t e r) t e := by cases r <;> rfl
/-- in brackets: one, or two and which of them -/
def wiS (two : Nat) (rec : Option (Nat → PR (List Nat))) (t : Nat → Nat) (e a : Nat) : PR (List Nat) :=
  if bt t e (lk t e a) = 40 then (match rec with
    | none => .inr (4, lk t e a)
    | some AT => pB (pSum AT t e (lk t e a + 1)) (fun cs b => if two = 0 then pB (pSign 41 t e b) (fun _ b2 => .inl (cs, b2)) else pB (pSign 44 t e b) (fun _ b2 => pB (pSum AT t e b2) (fun ds b3 => pB (pSign 41 t e b3) (fun _ b4 => .inl (cs ++ ds ++ [4 + two], b4))))))
  else .inr (1, lk t e a)
theorem XTt.re {σ σ' : FS} {v w : Int32} (h : XTt (sI σ 1 4 v) σ') (hw : fI σ 1 4 = w) : XTt σ (sI σ' 1 4 w) := by
  refine ⟨fun o k a b => ?_, h.2⟩
  rw [fI_sI]
  by_cases z : o = 1 ∧ k = 4
  · rw [if_pos z, z.1, z.2]; exact hw.symm
  · rw [if_neg z, h.1 o k a b, fI_sI, if_neg z]
theorem XRr.op2 {σ σ' : FS} {v : Int32} (h : XRr (sI σ 1 4 v) σ') : XRr σ σ' := (XRr.op σ v).trans h
theorem Rd.op {ν ν' : XN} {t : Nat → Nat} {e a r cx b0 : Nat} (h : Rd ν t e a (r + 1) cx b0) (e1 : ν'.1 = sI ν.1 1 4 (nI (6 - r))) (e2 : ν'.2 = ν.2) : Rd ν' t e a r cx b0 := by
  have hr := h.2.1.2
  refine ⟨h.1.to (by rw [e1]; exact XRr.op _ _) (by rw [e1, fI_sI, if_neg (by omega)]; exact h.1.2.1) h.1.2.2.2.1, ⟨by rw [e1, fI_sI, if_pos ⟨rfl, rfl⟩], by omega⟩, by rw [e1, fI_sI, if_neg (by omega)]; exact h.2.2.1, h.2.2.2.1.old (by rw [e1]; rfl) (by rw [e1]; rfl) (Old.eq e2), by rw [e1]; exact h.2.2.2.2⟩
theorem sign_ok {c : Nat} {t : Nat → Nat} {e a : Nat} (h : bt t e (lk t e a) = c) : pSign c t e a = .inl ((), lk t e a + 1) := by unfold pSign; rw [if_pos h]
theorem sign_no {c : Nat} {t : Nat → Nat} {e a : Nat} (h : ¬ bt t e (lk t e a) = c) : pSign c t e a = .inr (1, lk t e a) := by unfold pSign; rw [if_neg h]
theorem xl_within {al : Nat → Bool} {b0 e r cx two : Nat} {t : Nat → Nat} {AT : XN → Nat → Nat → (Nat → XN → Prop) → (XN → Prop) → Prop} (h2 : two < 3) (hS : ∀ r', r = r' + 1 → ElL al b0 (3 * r' + 3) t e r' cx 6 56 74 1094 (pSum (pAtom al t e r') t e) (xw_X2_sum AT)) : ElL al b0 (3 * r + 1) t e r cx 100 500 20 700 (wiS two (recA al t e r) t e) (xw_X2_within AT (nI two)) := by
  intro ν a k n Q E hR hb1 hb2 hQ hE
  have hT := hR.1
  have ha : a ≤ e := hT.2.2.2.1
  have he : e ≤ 1600 := hT.2.2.1
  obtain ⟨l1, l2, l3, l4⟩ := lk_spec (t := t) ha
  have T1 := hT.mv l2
  have v2 : fI (sI ν.1 1 2 (nI (lk t e a))) 1 2 = nI (lk t e a) := T1.2.1
  have x1 : XTt ν.1 (sI ν.1 1 2 (nI (lk t e a))) := XTt.at _ _
  have R1 : Rd (sI ν.1 1 2 (nI (lk t e a)), ν.2) t e (lk t e a) r cx b0 := hR.mv (ν' := (sI ν.1 1 2 (nI (lk t e a)), ν.2)) x1 (Old.refl _) T1
  unfold xw_X2_within
  refine xl_here hT ?_
  rw [i_40, byX_eq (fun z => hT.t z) (by decide)]
  unfold wiS at hb1 hb2 hQ hE
  refine ⟨fun z => ?_, fun z => ?_⟩
  · rw [if_pos z] at hb1 hb2 hQ hE
    have hlt : lk t e a < e := by
      unfold bt at z
      split at z
      · assumption
      · omega
    show xw_X2_opens (fI (sI ν.1 1 2 (nI (lk t e a))) 1 2) _ _ _
    rw [v2]
    refine xl_opens (r := r) R1.2.1.1 R1.2.1.2 (fun ν3 hr e3 g3 => ?_) (fun ν3 hr f3 g3 d3 => ?_)
    · obtain ⟨r', rfl⟩ : ∃ r', r = r' + 1 := ⟨r - 1, by omega⟩
      have hS := hS r' rfl
      have hvs : adv e (pSum (pAtom al t e r') t e) := adv_sum (adv_atom al t e r')
      simp only [recA] at hb1 hb2 hQ hE
      have e3 : ν3.1 = sI (sI ν.1 1 2 (nI (lk t e a))) 1 4 (nI (6 - r')) := e3
      have R3 : Rd ν3 t e (lk t e a) r' cx b0 := R1.op e3 g3
      intro ν4 e4
      have at3 : fI ν3.1 1 2 = nI (lk t e a) := R3.1.2.1
      have f34 : XTt ν3.1 ν4.1 := by rw [e4]; exact XTt.at _ _
      have g34 : ν4.2 = ν3.2 := by rw [e4]
      have T4 : Tk ν4.1 t e (lk t e a + 1) := by
        rw [e4]
        show Tk (sI ν3.1 1 2 (fI ν3.1 1 2 + 1)) t e _
        rw [at3, nI_1]
        exact R3.1.mv (by omega)
      have R4 : Rd ν4 t e (lk t e a + 1) r' cx b0 := R3.mv f34 (Old.eq g34) T4
      clear e4
      have g4 : ν4.2 = ν.2 := g34.trans g3
      have f4 : XTt (sI (sI ν.1 1 2 (nI (lk t e a))) 1 4 (nI (6 - r'))) ν4.1 := by rw [← e3]; exact f34
      have cl : ∀ (σ : FS), XTt ν4.1 σ → XTt ν.1 (sI σ 1 4 (fI σ 1 4 - 1)) := fun σ f => by
        have h1 := (f4.trans f).re (w := nI (6 - (r' + 1))) R1.2.1.1
        have h2 : fI σ 1 4 = nI (6 - r') := by rw [f.1 1 4 (fun _ => ⟨by decide, by decide⟩) (by decide)]; exact R4.2.1.1
        have h3 := hR.2.1.2
        rw [h2, i_1, pk_sub (by omega), show 6 - r' - 1 = 6 - (r' + 1) by omega]
        exact x1.trans h1
      have clT : ∀ (σ : FS) (c : Nat), Tk σ t e c → Tk (sI σ 1 4 (fI σ 1 4 - 1)) t e c := fun σ c h => h.to (XRr.op _ _) (by rw [fI_sI, if_neg (by omega)]; exact h.2.1) h.2.2.2.1
      have fl : ∀ (σ : FS), XRr ν4.1 σ → XRr ν.1 σ := fun σ f => x1.r.trans ((f4.r.trans f).op2)
      cases hs : pSum (pAtom al t e r') t e (lk t e a + 1) with
      | inr q =>
        simp only [hs, pB] at hb2 hE
        obtain ⟨w1, w2⟩ := hb2 q rfl
        refine ⟨k, n, 0, 0, by omega, by omega, ?_⟩
        refine hS ν4 _ k n _ _ R4 (fun cs b hh => by rw [hs] at hh; cases hh) (fun q' hh => ⟨by omega, by omega⟩) (fun ν' x N cs b hh => by rw [hs] at hh; cases hh) (fun ν' q' hh f' o' d' => ?_)
        rw [hs] at hh
        cases hh
        exact hE ν' _ rfl (fl _ f') ((Old.eq g4).trans o') d'
      | inl cb =>
        obtain ⟨cs, b⟩ := cb
        obtain ⟨⟨u1, u2⟩, u3⟩ := hvs _ cs b (by omega) hs
        simp only [hs, pB] at hb1 hb2 hQ hE
        obtain ⟨m1, m2, m3, m4⟩ := lk_spec (t := t) u3
        have hkk : 60 * (b - (lk t e a + 1)) + 10 ≤ k + 6 ∧ 400 * (b - (lk t e a + 1)) + 100 ≤ n + 56 := by
          by_cases ht0 : two = 0
          · rw [if_pos ht0] at hb1 hb2
            by_cases z4 : bt t e (lk t e b) = 41
            · rw [sign_ok z4] at hb1
              have : 60 * (lk t e b + 1 - a) ≤ k + 100 ∧ 400 * (lk t e b + 1 - a) ≤ n + 500 := hb1 _ _ rfl
              omega
            · rw [sign_no z4] at hb2
              have := hb2 _ rfl
              omega
          · rw [if_neg ht0] at hb1 hb2
            by_cases z4 : bt t e (lk t e b) = 44
            · have hlt2 : lk t e b < e := by
                unfold bt at z4
                split at z4
                · assumption
                · omega
              rw [sign_ok z4] at hb1 hb2
              simp only [] at hb1 hb2
              cases hs2 : pSum (pAtom al t e r') t e (lk t e b + 1) with
              | inr q =>
                rw [hs2] at hb2
                have := hb2 _ rfl
                omega
              | inl cb2 =>
                obtain ⟨ds, b3⟩ := cb2
                obtain ⟨⟨u4, -⟩, u6⟩ := hvs _ ds b3 (by omega) hs2
                rw [hs2] at hb1 hb2
                simp only [] at hb1 hb2
                obtain ⟨p1, p2, -, -⟩ := lk_spec (t := t) u6
                by_cases z5 : bt t e (lk t e b3) = 41
                · rw [sign_ok z5] at hb1
                  have : 60 * (lk t e b3 + 1 - a) ≤ k + 100 ∧ 400 * (lk t e b3 + 1 - a) ≤ n + 500 := hb1 _ _ rfl
                  omega
                · rw [sign_no z5] at hb2
                  have := hb2 _ rfl
                  omega
            · rw [sign_no z4] at hb2
              have := hb2 _ rfl
              omega
        refine ⟨60 * (b - (lk t e a + 1)) - 6, 400 * (b - (lk t e a + 1)) - 56, k - (60 * (b - (lk t e a + 1)) - 6), n - (400 * (b - (lk t e a + 1)) - 56), by omega, by omega, ?_⟩
        refine hS ν4 _ _ _ _ _ R4 (fun cs' b' hh => by rw [hs] at hh; cases hh; omega) (fun q' hh => by rw [hs] at hh; cases hh) (fun ν6 x N cs' b' hh f6 o6 T6 V6 z6 => ?_) (fun ν' q' hh => by rw [hs] at hh; cases hh)
        rw [hs] at hh
        cases hh
        have hx : (nI two ≤ 0) = (two = 0) := by
          rw [i_0, nI_leI (by omega) (by omega)]
          apply propext; omega
        rw [hx]
        refine ⟨fun ht0 => ?_, fun ht0 => ?_⟩
        · rw [if_pos ht0] at hQ hE
          unfold xw_X2_within_77
          refine xl_must (c := 41) T6 (by decide) (fun ν7 z4 f7 g7 T7 => ?_) (fun ν7 z4 f7 g7 d7 => ?_)
          · intro ν8 e8
            rw [sign_ok z4] at hQ
            refine hQ ν8 x N cs _ rfl ?_ ?_ ?_ ((V6.mv (ρ' := ν8.2) (by rw [e8]; show Sme N ν6.2 ν7.2; rw [g7]; exact Eqa.refl' _ _)).2 |> fun h => ⟨fun y hy => ?_, fun ρ' hs' => (VT.up2 (by omega) _ _).1 (h ρ' hs')⟩) (fun y hy => by have := z6 y hy; rw [g4] at this; exact this)
            · rw [e8]; exact cl _ (f6.trans f7)
            · rw [e8]; show Old ν.2 ν7.2; rw [g7]; exact (Old.eq g4).trans o6
            · rw [e8]; exact clT _ _ T7
            · rw [e8]; show rk ν7.2 y ≠ 0; rw [g7]; exact V6.1 y hy
          · rw [sign_no z4] at hE
            exact hE ν7 _ rfl (fl _ (f6.r.trans f7.r)) (by rw [g7]; exact (Old.eq g4).trans o6) d7
        · rw [if_neg ht0] at hb1 hb2 hQ hE
          refine xl_must (c := 44) T6 (by decide) (fun ν7 z4 f7 g7 T7 => ?_) (fun ν7 z4 f7 g7 d7 => ?_)
          · have hlt2 : lk t e b < e := by have := T7.2.2.2.1; omega
            rw [sign_ok z4] at hb1 hb2 hQ hE
            simp only [] at hb1 hb2 hQ hE
            have hk2 : 1 ≤ k - (60 * (b - (lk t e a + 1)) - 6) ∧ 3 ≤ n - (400 * (b - (lk t e a + 1)) - 56) := by omega
            refine ⟨k - (60 * (b - (lk t e a + 1)) - 6) - 1, n - (400 * (b - (lk t e a + 1)) - 56) - 3, by omega, by omega, fun q15 hq15 ν17 e17 => ?_⟩
            have hq6 : rk ν6.2 q15 = 0 := by rw [← g7]; exact hq15
            have f17 : ν17.1 = ν7.1 := by rw [e17]
            have k17 : rk ν17.2 q15 = 13 := by rw [e17]; show rk (tN ν7.2 q15 13 0) q15 = 13; rw [rk_tN, if_pos rfl]
            have c17 : Chg (fun _ => False) ν7.2 ν17.2 := by rw [e17]; exact Chg.tN _ _ _ hq15
            clear e17
            have f67 : XTt ν6.1 ν17.1 := by rw [f17]; exact f7
            have o17 : Old ν6.2 ν17.2 := (Old.eq g7).trans ((Old.refl _).chg c17 (fun _ hh => hh.elim))
            have R17 : Rd ν17 t e (lk t e b + 1) r' cx b0 := R4.mv (f6.trans f67) (o6.trans o17) (by rw [f17]; exact T7)
            have main : ∀ y0, y0 < 2 → two = y0 + 1 → xw_X2_within_68 AT x (nI y0) q15 q15 ν17 (k - (60 * (b - (lk t e a + 1)) - 6) - 1) (n - (400 * (b - (lk t e a + 1)) - 56) - 3) Q E := by
              intro y0 hy0 hyt
              unfold xw_X2_within_68
              cases hs2 : pSum (pAtom al t e r') t e (lk t e b + 1) with
              | inr q =>
                rw [hs2] at hb2 hE
                simp only [] at hb2 hE
                obtain ⟨w1, w2⟩ := hb2 q rfl
                refine ⟨k - (60 * (b - (lk t e a + 1)) - 6) - 1, n - (400 * (b - (lk t e a + 1)) - 56) - 3, 0, 0, by omega, by omega, ?_⟩
                refine hS ν17 _ _ _ _ _ R17 (fun cs' b' hh => by rw [hs2] at hh; cases hh) (fun q' hh => ⟨by omega, by omega⟩) (fun ν' x' N' cs' b' hh => by rw [hs2] at hh; cases hh) (fun ν' q' hh f' o' d' => ?_)
                rw [hs2] at hh
                cases hh
                exact hE ν' _ rfl (fl _ ((f6.trans f67).r.trans f')) ((Old.eq g4).trans ((o6.trans o17).trans o')) d'
              | inl cb2 =>
                obtain ⟨ds, b3⟩ := cb2
                obtain ⟨⟨u4, -⟩, u6⟩ := hvs _ ds b3 (by omega) hs2
                rw [hs2] at hb1 hb2 hQ hE
                simp only [] at hb1 hb2 hQ hE
                obtain ⟨p1, p2, -, -⟩ := lk_spec (t := t) u6
                have hkk2 : 60 * (b3 - (lk t e b + 1)) + 60 * (b - (lk t e a + 1)) + 30 ≤ k + 12 ∧ 400 * (b3 - (lk t e b + 1)) + 400 * (b - (lk t e a + 1)) + 100 ≤ n + 112 := by
                  by_cases z5 : bt t e (lk t e b3) = 41
                  · rw [sign_ok z5] at hb1
                    have : 60 * (lk t e b3 + 1 - a) ≤ k + 100 ∧ 400 * (lk t e b3 + 1 - a) ≤ n + 500 := hb1 _ _ rfl
                    omega
                  · rw [sign_no z5] at hb2
                    have := hb2 _ rfl
                    omega
                refine ⟨60 * (b3 - (lk t e b + 1)) - 6, 400 * (b3 - (lk t e b + 1)) - 56, 0, 0, by omega, by omega, ?_⟩
                refine hS ν17 _ _ _ _ _ R17 (fun cs' b' hh => by rw [hs2] at hh; cases hh; omega) (fun q' hh => by rw [hs2] at hh; cases hh) (fun ν29 x' N' cs' b' hh f29 o29 T29 V29 z29 => ?_) (fun ν' q' hh => by rw [hs2] at hh; cases hh)
                rw [hs2] at hh
                cases hh
                have k29 : rk ν29.2 q15 = 13 := by rw [(o29 q15 (by rw [k17]; decide)).1]; exact k17
                unfold xw_X12_init xw_X10_init
                refine ⟨k29, ?_, ?_, ?_⟩
                · rcases (show y0 = 0 ∨ y0 = 1 by omega) with rfl | rfl
                  · exact nb_0
                  · exact nb_1
                · rcases (show y0 = 0 ∨ y0 = 1 by omega) with rfl | rfl <;> rfl
                intro ν2 e2
                subst e2
                refine ⟨k29, ?_⟩
                intro ν77 e77
                subst e77
                refine ⟨k29, ?_⟩
                intro ν10 e10
                have c10 : Chg (fun y => y = q15) ν29.2 ν10.2 := by rw [e10]; exact ((Chg.tI (S := fun y => y = q15) _ _ _ rfl).trans (Chg.tO _ _ _ rfl)).trans (Chg.tO _ _ _ rfl)
                have k10 : rk ν10.2 q15 = 13 := by rw [e10]; exact k29
                have i10 : rI ν10.2 q15 0 = nI y0 := by rw [e10]; show rI (tI ν29.2 q15 0 (nI y0)) q15 0 = _; rw [rI_tI, if_pos ⟨rfl, rfl⟩]
                have oo1 : rO ν10.2 q15 1 = some x := by rw [e10]; show rO (tO (tO (tI ν29.2 q15 0 (nI y0)) q15 1 (some x)) q15 2 (some x')) q15 1 = _; rw [rO_tO, if_neg (by omega), rO_tO, if_pos ⟨rfl, rfl⟩]
                have oo2 : rO ν10.2 q15 2 = some x' := by rw [e10]; show rO (tO (tO (tI ν29.2 q15 0 (nI y0)) q15 1 (some x)) q15 2 (some x')) q15 2 = _; rw [rO_tO, if_pos ⟨rfl, rfl⟩]
                have f10 : ν10.1 = ν29.1 := by rw [e10]
                clear e10
                have hN : ∀ y, N y → rk ν29.2 y ≠ 0 ∧ ¬ y = q15 := fun y hy => ⟨by rw [((o17.trans o29) y (V6.1 y hy)).1]; exact V6.1 y hy, fun w => V6.1 y hy (by rw [w]; exact hq6)⟩
                have hN' : ∀ y, N' y → rk ν29.2 y ≠ 0 ∧ ¬ y = q15 := fun y hy => ⟨V29.1 y hy, fun w => by have := z29 y hy; rw [w, k17] at this; cases this⟩
                have sN : Sme N ν6.2 ν10.2 := fun y hy => Eqa.trans ((o17.trans o29) y (V6.1 y hy)) (c10.2 y (hN y hy).1 (hN y hy).2)
                have sN' : Sme N' ν29.2 ν10.2 := fun y hy => c10.2 y (hN' y hy).1 (hN' y hy).2
                have V : VTs al b0 (3 * (r' + 1) + 1) (fun y => N y ∨ N' y ∨ y = q15) ν10.2 q15 (cs ++ ds ++ [4 + two]) := by
                  refine ⟨fun y hy => ?_, fun ρ' hs' => ?_⟩
                  · rcases hy with w | w | w
                    · rw [(c10.1 y (hN y w).1).1]; exact (hN y w).1
                    · rw [(c10.1 y (hN' y w).1).1]; exact (hN' y w).1
                    · rw [w, k10]; decide
                  · have eq := hs' q15 (Or.inr (Or.inr rfl))
                    refine Or.inr (Or.inr (Or.inr (Or.inl ⟨rcO (by rw [eq.1]; exact k10) (by decide), y0, x, x', cs, ds, hy0, by rw [hyt, show 4 + (y0 + 1) = 5 + y0 by omega], by rw [eq.2.2.1]; exact i10, by rw [eq.2.2.2.2]; exact oo1, by rw [eq.2.2.2.2]; exact oo2, ?_, ?_⟩)))
                    · exact V6.2 ρ' (sN.trans (fun y hy => hs' y (Or.inl hy)))
                    · exact V29.2 ρ' (sN'.trans (fun y hy => hs' y (Or.inr (Or.inl hy))))
                have zN : ∀ y, (N y ∨ N' y ∨ y = q15) → rk ν.2 y = 0 := by
                  intro y hy
                  rcases hy with w | w | w
                  · have := z6 y w; rw [g4] at this; exact this
                  · have h1 := (o6.trans o17).z (z29 y w); rw [g4] at h1; exact h1
                  · rw [w]
                    have h1 := o6.z hq6; rw [g4] at h1; exact h1
                have oF : Old ν.2 ν10.2 := ((Old.eq g4).trans ((o6.trans o17).trans o29)).chg c10 (fun y hy => zN y (Or.inr (Or.inr hy)))
                have xF : XTt ν4.1 ν10.1 := (f6.trans f67).trans (by rw [f10]; exact f29)
                have T10 : Tk ν10.1 t e b3 := by rw [f10]; exact T29
                unfold xw_X2_within_77
                refine xl_must (c := 41) T10 (by decide) (fun ν11 z5 f11 g11 T11 => ?_) (fun ν11 z5 f11 g11 d11 => ?_)
                · intro ν12 e12
                  rw [sign_ok z5] at hQ
                  refine hQ ν12 q15 _ _ _ rfl ?_ ?_ ?_ (V.mv (by rw [e12]; show Sme _ ν10.2 ν11.2; rw [g11]; exact Eqa.refl' _ _)) zN
                  · rw [e12]; exact cl _ (xF.trans f11)
                  · rw [e12]; show Old ν.2 ν11.2; rw [g11]; exact oF
                  · rw [e12]; exact clT _ _ T11
                · rw [sign_no z5] at hE
                  exact hE ν11 _ rfl (fl _ (xF.r.trans f11.r)) (by rw [g11]; exact oF) d11
            rw [i_2, nI_eq (by omega) (by omega)]
            exact ⟨fun w => main 0 (by decide) (by omega), fun w => main 1 (by decide) (by omega)⟩
          · rw [sign_no z4] at hE
            exact hE ν7 _ rfl (fl _ (f6.r.trans f7.r)) (by rw [g7]; exact (Old.eq g4).trans o6) d7
    · subst hr
      exact hE ν3 _ rfl (x1.r.trans f3.r) (Old.eq g3) d3
  · rw [if_neg z] at hE
    show xw_X2_wrong 1 (fI (sI ν.1 1 2 (nI (lk t e a))) 1 2) _ _
    rw [v2]
    exact xl_wrong (fun ν' f g d => hE ν' _ rfl (x1.r.trans f.r) (Old.eq g) d)
