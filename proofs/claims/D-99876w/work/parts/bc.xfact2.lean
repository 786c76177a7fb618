/-! THE SYSTEM: a fact, walked -/
theorem xl_factG {al : Nat → Bool} {b0 e r cx : Nat} {t : Nat → Nat} {AT FC : XN → Nat → Nat → (Nat → XN → Prop) → (XN → Prop) → Prop} (hS : ElL al b0 (3 * r + 3) t e r cx 6 56 74 1094 (pSum (pAtom al t e r) t e) (xw_X2_sum AT)) (hF : ∀ r', r = r' + 1 → ElT al b0 (3 * r' + 4) t e r' cx 0 40 300 100 1300 (pFact al t e r') FC) : ElT al b0 (3 * r + 4) t e r cx 0 40 300 100 1300 (pFactG (pAtom al t e r) (recF al t e r) t e) (xw_X2_fact AT FC) := by
  have hTe : ∀ r', r = r' + 1 → ElT al b0 (3 * r' + 6) t e r' cx 4 20 220 120 1380 (pTest (pFact al t e r') t e) (xw_X2_test AT FC) := by
    intro r' hr
    have h1 := xl_bothV (AT := AT) (hF r' hr) (adv_fact al t e r') (by decide) (by decide) (by decide) (by decide)
    exact xl_testV (AT := AT) h1 (adv_both (adv_fact al t e r')) (by decide) (by decide) (by decide) (by decide)
  intro ν a k n Q E hR hb1 hb2 hQ hE
  have hT := hR.1
  have ha : a ≤ e := hT.2.2.2.1
  have he : e ≤ 1600 := hT.2.2.1
  obtain ⟨l1, l2, l3, l4⟩ := lk_spec (t := t) ha
  have T1 := hT.mv l2
  have v2 : fI (sI ν.1 1 2 (nI (lk t e a))) 1 2 = nI (lk t e a) := T1.2.1
  have x1 : XTt ν.1 (sI ν.1 1 2 (nI (lk t e a))) := XTt.at _ _
  have R1 : Rd (sI ν.1 1 2 (nI (lk t e a)), ν.2) t e (lk t e a) r cx b0 := hR.mv (ν' := (sI ν.1 1 2 (nI (lk t e a)), ν.2)) x1 (Old.refl _) T1
  have hvf : adv e (pFactG (pAtom al t e r) (recF al t e r) t e) := by rw [← pFact_rec]; exact adv_fact al t e r
  have hnx := nx_le (t := t) ha
  have hkn : 20 ≤ k ∧ 4 * nx t e a + 100 ≤ n := by
    cases hw : pFactG (pAtom al t e r) (recF al t e r) t e a with
    | inl cb =>
      obtain ⟨cs, b⟩ := cb
      have h1 := hb1 cs b hw
      have h2 := (hvf a cs b ha hw).1.1
      have h3 := nx_fact ha hw
      omega
    | inr q =>
      have h1 := hb2 q hw
      omega
  unfold xw_X2_fact
  refine xl_here hT ?_
  rw [i_91, byX_eq (fun z => hT.t z) (by decide)]
  refine ⟨fun z => ?_, fun z => ?_⟩
  · -- not a bracket
    intro b3 hb3
    obtain ⟨mA, m1, m2⟩ := R1.2.2.2.1.1 18 (by decide)
    have m1 : fR ν.1 900 18 = .ref mA := m1
    have hb3 : fR ν.1 900 18 = .ref b3 := hb3
    rw [hb3] at m1
    cases m1
    rw [cW_t.2.2.1] at m2
    have nl : nx t e (lk t e a) = nx t e a := nx_lk ha
    refine ⟨3, 2 * nx t e a + 4, k - 3, n - (2 * nx t e a + 4), by omega, by omega, ?_⟩
    refine xl_pasW T1 m2 (by omega) (by omega) (fun ν5 hw f5 o5 T5 fr5 => ⟨fun z => absurd z (by decide), fun _ => ?_⟩) (fun ν5 a5 hw hnb f5 o5 T5 u1 u2 u3 => ⟨fun _ => ?_, fun z => absurd rfl z⟩) (fun ν5 hL hp f5 o5 d5 => ?_)
    · -- not
      rw [lk_lk ha] at hw T5 fr5
      have hhw := isW_iff.mp hw
      obtain ⟨w1, w2, -, -⟩ := wE_spec hhw.1
      have hnw : nx t e a = wE t e (lk t e a) - lk t e a := rfl
      have R5 : Rd ν5 t e (wE t e (lk t e a)) r cx b0 := R1.mv f5 o5 T5
      have x5 : XTt ν.1 ν5.1 := x1.trans f5
      have o5 : Old ν.2 ν5.2 := o5
      rw [fr5]
      refine xl_opens (r := r) R5.2.1.1 R5.2.1.2 (fun ν6 hr e6 g6 => ?_) (fun ν6 hr f6 g6 d6 => ?_)
      · obtain ⟨r', rfl⟩ : ∃ r', r = r' + 1 := ⟨r - 1, by omega⟩
        have hF' := hF r' rfl
        have hspec : pFactG (pAtom al t e (r' + 1)) (recF al t e (r' + 1)) t e a = pB (pFact al t e r' (wE t e (lk t e a))) (fun cs b => .inl (cs ++ [12], b)) := pFa_noS hhw
        rw [hspec] at hb1 hb2 hQ hE
        generalize hW : wE t e (lk t e a) = W at *
        have e6 : ν6.1 = sI ν5.1 1 4 (nI (6 - r')) := e6
        have R6 : Rd ν6 t e W r' cx b0 := R5.op e6 g6
        refine ⟨k - 4, n - (2 * nx t e a + 4) - 1, by omega, by omega, fun q2 hq2 ν8 e8 => ?_⟩
        have hq5 : rk ν5.2 q2 = 0 := by rw [← g6]; exact hq2
        have f8 : ν8.1 = ν6.1 := by rw [e8]
        have k8 : rk ν8.2 q2 = 19 := by rw [e8]; show rk (tN ν6.2 q2 19 0) q2 = 19; rw [rk_tN, if_pos rfl]
        have c8 : Chg (fun y => y = q2) ν5.2 ν8.2 := by rw [e8, ← g6]; exact Chg.tN _ _ _ hq2
        clear e8
        have o8 : Old ν5.2 ν8.2 := (Old.refl _).chg c8 (fun y hy => by rw [hy]; exact hq5)
        have R8 : Rd ν8 t e W r' cx b0 := R6.mv (by rw [f8]; exact XTt.refl _) (by rw [g6]; exact o8) (by rw [f8]; exact R6.1)
        have fl : ∀ (σ : FS), XRr ν8.1 σ → XRr ν.1 σ := fun σ f => by
          rw [f8, e6] at f
          exact x5.r.trans f.op2
        have hq0 : rk ν.2 q2 = 0 := o5.z hq5
        cases hs : pFact al t e r' W with
        | inr q =>
          rw [hs] at hb2 hE
          obtain ⟨y1, y2⟩ := hb2 q rfl
          refine ⟨k - 4, n - (2 * nx t e a + 4) - 1, 0, 0, by omega, by omega, ?_⟩
          refine hF' ν8 _ _ _ _ _ R8 (fun cs b hh => by rw [hs] at hh; cases hh) (fun q' hh => ⟨by omega, by omega⟩) (fun ν' x N cs b b' hh => by rw [hs] at hh; cases hh) (fun ν' q' hh f' o' d' => ?_)
          rcases hh with hh | ⟨cs', b', hh, -⟩
          · rw [hs] at hh
            cases hh
            exact hE ν' _ (Or.inl rfl) (fl _ f') (o5.trans (o8.trans o')) d'
          · rw [hs] at hh; cases hh
        | inl cb =>
          obtain ⟨cs, b⟩ := cb
          rw [hs] at hb1 hb2 hQ hE
          simp only [pB_inlR] at hb1 hb2 hQ hE
          obtain ⟨y1, y2⟩ := hb1 _ _ rfl
          obtain ⟨⟨v1, -⟩, v3⟩ := adv_fact al t e r' W cs b w2 hs
          refine ⟨k - 4, n - (2 * nx t e a + 4) - 1, 0, 0, by omega, by omega, ?_⟩
          refine hF' ν8 _ _ _ _ _ R8 (fun cs' b' hh => by rw [hs] at hh; cases hh; omega) (fun q' hh => by rw [hs] at hh; cases hh) (fun ν10 x N cs' b' p' hh f10 o10 T10 p1 p2 p3 V10 z10 => ?_) (fun ν' q' hh f' o' d' => ?_)
          · rw [hs] at hh
            cases hh
            have k10 : rk ν10.2 q2 = 19 := by rw [(o10 q2 (by rw [k8]; decide)).1]; exact k8
            unfold xw_X18_init xw_X16_init
            refine ⟨k10, ?_⟩
            intro ν11 e11 ν12 e12
            have c11 : Chg (fun y => y = q2) ν10.2 ν11.2 := by rw [e11]; exact Chg.tO _ _ _ rfl
            have k11 : rk ν11.2 q2 = 19 := by rw [e11]; exact k10
            have o11 : rO ν11.2 q2 0 = some x := by rw [e11]; show rO (tO ν10.2 q2 0 (some x)) q2 0 = _; rw [rO_tO, if_pos ⟨rfl, rfl⟩]
            have f11 : ν11.1 = ν10.1 := by rw [e11]
            clear e11
            have g12 : ν12.2 = ν11.2 := by rw [e12]
            have f12 : ν12.1 = sI ν10.1 1 4 (fI ν10.1 1 4 - 1) := by rw [e12]; show sI ν11.1 1 4 (fI ν11.1 1 4 - 1) = _; rw [f11]
            clear e12
            have nz : ∀ y, N y → y ≠ q2 := fun y hy w => by
              have := z10 y hy
              rw [w, k8] at this; cases this
            have sN : Sme N ν10.2 ν11.2 := c11.sme (fun y hy => ⟨V10.1 y hy, nz y hy⟩)
            have V12 : TTs al b0 (3 * (r' + 1) + 4) (fun y => N y ∨ y = q2) ν12.2 q2 (cs ++ [12]) := by
              rw [g12]
              refine ⟨fun y hy => ?_, fun ρ' hs' => ?_⟩
              · rcases hy with w | w
                · rw [(sN y w).1]; exact V10.1 y w
                · rw [w, k11]; decide
              · have eq := hs' q2 (Or.inr rfl)
                refine Or.inr (Or.inl ⟨rcO (by rw [eq.1]; exact k11) (by decide), x, cs, rfl, by rw [eq.2.2.2.2]; exact o11, (VT.up2 (by omega) x cs).2 (V10.2 ρ' (fun y hy => (sN y hy).trans (hs' y (Or.inl hy))))⟩)
            have h4 : fI ν10.1 1 4 = nI (6 - r') := by rw [f10.1 1 4 (fun _ => ⟨by decide, by decide⟩) (by decide)]; exact R8.2.1.1
            have h3 := hR.2.1.2
            have x12 : XTt ν.1 ν12.1 := by
              rw [f12, h4, i_1, pk_sub (by omega), show 6 - r' - 1 = 6 - (r' + 1) by omega]
              rw [f8, e6] at f10
              exact x5.trans (f10.re R5.2.1.1)
            refine hQ ν12 q2 _ _ _ p' rfl x12 ?_ ?_ (by omega) p2 p3 V12 ?_
            · rw [g12]
              exact (o5.trans (o8.trans o10)).chg c11 (fun y hy => by rw [hy]; exact hq0)
            · rw [f12]; exact T10.to (XRr.op _ _) (by rw [fI_sI, if_neg (by omega)]; exact T10.2.1) T10.2.2.2.1
            · intro y hy
              rcases hy with w | w
              · exact (o5.trans o8).z (z10 y w)
              · rw [w]; exact hq0
          · rcases hh with hh | ⟨cs', b', hh, h1, h2, h3⟩
            · rw [hs] at hh; cases hh
            · rw [hs] at hh
              cases hh
              exact hE ν' q' (Or.inr ⟨_, _, rfl, h1, h2, h3⟩) (fl _ f') (o5.trans (o8.trans o')) d'
      · subst hr
        have hspec : pFactG (pAtom al t e 0) (recF al t e 0) t e a = .inr (4, lk t e a) := pFa_noN hhw
        exact hE ν6 _ (Or.inl hspec) (x5.r.trans f6.r) (o5.trans (Old.eq g6)) d6
    · -- not "not"
      rw [lk_lk ha] at hw hnb u2 u3
      have n85 : ¬ hereW t e (lk t e a) (str 85) := fun w => by rw [isW_iff.mpr w] at hw; cases hw
      have R5 : Rd ν5 t e a5 r cx b0 := R1.mv f5 o5 T5
      have x5 : XTt ν.1 ν5.1 := x1.trans f5
      have o5 : Old ν.2 ν5.2 := o5
      intro b13 hb13
      obtain ⟨mB, m3, m4⟩ := R5.2.2.2.1.1 19 (by decide)
      rw [hb13] at m3
      cases m3
      rw [cW_t.2.2.2] at m4
      have hp5 : a5 ≤ e := T5.2.2.2.1
      have nl5 : nx t e a5 = nx t e a := by unfold nx; rw [u3]
      refine ⟨3, 2 * nx t e a + 4, k - 6, n - (2 * nx t e a + 4) - (2 * nx t e a + 4), by omega, by omega, ?_⟩
      refine xl_pasW T5 m4 (by omega) (by omega) (fun ν6 hw6 f6 o6 T6 fr6 => ⟨fun z => absurd z (by decide), fun _ => ?_⟩) (fun ν6 a6 hw6 hnb6 f6 o6 T6 s1 s2 s3 => ⟨fun _ => ?_, fun z => absurd rfl z⟩) (fun ν6 hL hp f6 o6 d6 => ?_)
      · -- all
        rw [u3] at hw6 T6
        have hhw := isW_iff.mp hw6
        obtain ⟨w1, w2, -, -⟩ := wE_spec hhw.1
        have hspec : pFactG (pAtom al t e r) (recF al t e r) t e a = .inl ([13], wE t e (lk t e a)) := pFa_88 n85 hhw
        refine ⟨k - 7, n - (2 * nx t e a + 4) - (2 * nx t e a + 4), by omega, by omega, fun q2 hq2 ν8 e8 => ?_⟩
        have f8 : ν8.1 = ν6.1 := by rw [e8]
        have k8 : rk ν8.2 q2 = 20 := by rw [e8]; show rk (tN ν6.2 q2 20 0) q2 = 20; rw [rk_tN, if_pos rfl]
        have c8 : Chg (fun y => y = q2) ν6.2 ν8.2 := by rw [e8]; exact Chg.tN _ _ _ hq2
        clear e8
        have hq0 : rk ν.2 q2 = 0 := (o5.trans o6).z hq2
        unfold xw_X19_init xw_X16_init
        refine hQ ν8 q2 (fun y => y = q2) _ _ _ hspec (by rw [f8]; exact x5.trans f6) ((o5.trans o6).chg c8 (fun y hy => by rw [hy]; exact hq0)) (by rw [f8]; exact T6) (by omega) (Nat.le_refl _) rfl ⟨fun y hy => by rw [hy, k8]; decide, fun ρ' hs' => ?_⟩ (fun y hy => by rw [hy]; exact hq0)
        have eq := hs' q2 rfl
        exact Or.inl ⟨rcO (by rw [eq.1]; exact k8) (by decide), rfl⟩
      · -- two sums
        rw [u3] at hw6 hnb6 s2 s3
        have n88 : ¬ hereW t e (lk t e a) (str 88) := fun w => by rw [isW_iff.mpr w] at hw6; cases hw6
        have hspec := pFa_sum (AT := pAtom al t e r) (rec := recF al t e r) z n85 n88
        rw [hspec] at hb1 hb2 hQ hE
        have R6 : Rd ν6 t e a6 r cx b0 := R5.mv f6 o6 T6
        have x6 : XTt ν.1 ν6.1 := x5.trans f6
        have o06 : Old ν.2 ν6.2 := o5.trans o6
        have hp6 : a6 ≤ e := T6.2.2.2.1
        have hva := adv_sum (t := t) (adv_atom al t e r)
        have sl : pSum (pAtom al t e r) t e a6 = pSum (pAtom al t e r) t e a := sum_lk s3
        cases hs : pSum (pAtom al t e r) t e a with
        | inr q =>
          rw [hs] at hb2 hE
          obtain ⟨y1, y2⟩ := hb2 q rfl
          refine ⟨k - 6, n - (2 * nx t e a + 4) - (2 * nx t e a + 4), 0, 0, by omega, by omega, ?_⟩
          refine hS ν6 _ _ _ _ _ R6 (fun cs b hh => by rw [sl, hs] at hh; cases hh) (fun q' hh => ⟨by omega, by omega⟩) (fun ν' x N cs b hh => by rw [sl, hs] at hh; cases hh) (fun ν' q' hh f' o' d' => ?_)
          rw [sl, hs] at hh
          cases hh
          exact hE ν' _ (Or.inl rfl) (x6.r.trans f') (o06.trans o') d'
        | inl cb =>
          obtain ⟨cs, b⟩ := cb
          rw [hs] at hb1 hb2 hQ hE
          simp only [pB_inlR] at hb1 hb2 hQ hE
          obtain ⟨⟨v1, -⟩, v3⟩ := hva a cs b ha hs
          have hnb2 := nx_sum ha hs
          obtain ⟨j1, j2, -, -⟩ := lk_spec (t := t) v3
          have hkk : 60 * (b - a) + 8 ≤ k + 6 ∧ 400 * (b - a) + 2 * (2 * nx t e a + 4) + 20 ≤ n + 56 := by
            by_cases zo : opC (bt t e (lk t e b)) = 0
            · rw [if_pos zo] at hb2
              have := hb2 _ rfl
              omega
            · rw [if_neg zo] at hb1 hb2
              have hlt := opC_lt zo
              cases hs2 : pSum (pAtom al t e r) t e (lk t e b + 1) with
              | inr q =>
                rw [hs2] at hb2
                have := hb2 q rfl
                omega
              | inl cb =>
                obtain ⟨ds, b2⟩ := cb
                rw [hs2] at hb1
                have h1 := hb1 _ _ rfl
                have h2 := hva _ ds b2 (by omega) hs2
                omega
          refine ⟨60 * (b - a) - 6, 400 * (b - a) - 56, k - 6 - (60 * (b - a) - 6), n - (2 * nx t e a + 4) - (2 * nx t e a + 4) - (400 * (b - a) - 56), by omega, by omega, ?_⟩
          refine hS ν6 _ _ _ _ _ R6 (fun cs' b' hh => by rw [sl, hs] at hh; cases hh; omega) (fun q' hh => by rw [sl, hs] at hh; cases hh) (fun ν7 x N cs' b' hh f7 o7 T7 V7 z7 => ?_) (fun ν' q' hh => by rw [sl, hs] at hh; cases hh)
          rw [sl, hs] at hh
          cases hh
          have x7 : XTt ν.1 ν7.1 := x6.trans f7
          have o07 : Old ν.2 ν7.2 := o06.trans o7
          refine xl_here T7 ?_
          have T8 := T7.mv j2
          have x8 : XTt ν.1 (sI ν7.1 1 2 (nI (lk t e b))) := x7.trans (XTt.at _ _)
          -- a sign between them
          have than : ∀ c, c < 256 → (c = 60 ∨ c = 61 ∨ c = 62) → bt t e (lk t e b) = c → xw_X2_fact_148 AT FC x (byX t e (lk t e b)) (sI ν7.1 1 2 (nI (lk t e b)), ν7.2) (k - 6 - (60 * (b - a) - 6)) (n - (2 * nx t e a + 4) - (2 * nx t e a + 4) - (400 * (b - a) - 56)) Q E := by
            intro c hc hcc hbc
            have hne : ¬ opC (bt t e (lk t e b)) = 0 := by rw [hbc]; rcases hcc with w | w | w <;> rw [w] <;> decide
            have hlt := opC_lt hne
            rw [if_neg hne, hbc] at hb1 hb2 hQ hE
            have hby : byX t e (lk t e b) = nI c := (byX_eq (fun z => hT.t z) hc).mpr hbc
            rw [hby]
            unfold xw_X2_fact_148
            intro ν9 e9
            have f9 : XTt (sI ν7.1 1 2 (nI (lk t e b))) ν9.1 := by rw [e9]; exact XTt.at _ _
            have g9 : ν9.2 = ν7.2 := by rw [e9]
            have T9 : Tk ν9.1 t e (lk t e b + 1) := by
              rw [e9]
              show Tk (sI (sI ν7.1 1 2 (nI (lk t e b))) 1 2 (fI (sI ν7.1 1 2 (nI (lk t e b))) 1 2 + 1)) t e _
              rw [T8.2.1, nI_1]
              exact T8.mv (by omega)
            clear e9
            have x9 : XTt ν.1 ν9.1 := x8.trans f9
            refine ⟨k - 6 - (60 * (b - a) - 6) - 1, n - (2 * nx t e a + 4) - (2 * nx t e a + 4) - (400 * (b - a) - 56) - 3, by omega, by omega, fun q2 hq2 ν10 e10 => ?_⟩
            have hq7 : rk ν7.2 q2 = 0 := by rw [← g9]; exact hq2
            have f10 : ν10.1 = ν9.1 := by rw [e10]
            have k10 : rk ν10.2 q2 = 21 := by rw [e10]; show rk (tN ν9.2 q2 21 0) q2 = 21; rw [rk_tN, if_pos rfl]
            have c10 : Chg (fun y => y = q2) ν7.2 ν10.2 := by rw [e10, ← g9]; exact Chg.tN _ _ _ hq2
            clear e10
            have hq0 : rk ν.2 q2 = 0 := o07.z hq7
            have o10 : Old ν7.2 ν10.2 := (Old.refl _).chg c10 (fun y hy => by rw [hy]; exact hq7)
            have o010 : Old ν.2 ν10.2 := o07.trans o10
            have R10 : Rd ν10 t e (lk t e b + 1) r cx b0 := hR.mv (by rw [f10]; exact x9) o010 (by rw [f10]; exact T9)
            cases hs2 : pSum (pAtom al t e r) t e (lk t e b + 1) with
            | inr q =>
              rw [hs2] at hb2 hE
              obtain ⟨y1, y2⟩ := hb2 q rfl
              refine ⟨k - 6 - (60 * (b - a) - 6) - 1, n - (2 * nx t e a + 4) - (2 * nx t e a + 4) - (400 * (b - a) - 56) - 3, 0, 0, by omega, by omega, ?_⟩
              refine hS ν10 _ _ _ _ _ R10 (fun cs' b' hh => by rw [hs2] at hh; cases hh) (fun q' hh => ⟨by omega, by omega⟩) (fun ν' x' N' cs' b' hh => by rw [hs2] at hh; cases hh) (fun ν' q' hh f' o' d' => ?_)
              rw [hs2] at hh
              cases hh
              exact hE ν' _ (Or.inl rfl) (x9.r.trans (by rw [← f10]; exact f')) (o010.trans o') d'
            | inl cb =>
              obtain ⟨ds, b2⟩ := cb
              rw [hs2] at hb1 hb2 hQ hE
              simp only [pB_inlR] at hb1 hb2 hQ hE
              obtain ⟨y1, y2⟩ := hb1 _ _ rfl
              obtain ⟨⟨i1, -⟩, i3⟩ := hva _ ds b2 (by omega) hs2
              refine ⟨k - 6 - (60 * (b - a) - 6) - 1, n - (2 * nx t e a + 4) - (2 * nx t e a + 4) - (400 * (b - a) - 56) - 3, 0, 0, by omega, by omega, ?_⟩
              refine hS ν10 _ _ _ _ _ R10 (fun cs' b' hh => by rw [hs2] at hh; cases hh; omega) (fun q' hh => by rw [hs2] at hh; cases hh) (fun ν11 x' N' cs' b' hh f11 o11 T11 V11 z11 => ?_) (fun ν' q' hh => by rw [hs2] at hh; cases hh)
              rw [hs2] at hh
              cases hh
              have k11 : rk ν11.2 q2 = 21 := by rw [(o11 q2 (by rw [k10]; decide)).1]; exact k10
              unfold xw_X20_init xw_X16_init
              refine ⟨k11, ?_⟩
              intro νa ea
              subst ea
              refine ⟨k11, ?_⟩
              intro νb eb
              subst eb
              refine ⟨k11, ?_⟩
              intro ν12 e12
              have c12 : Chg (fun y => y = q2) ν11.2 ν12.2 := by rw [e12]; exact ((Chg.tO (S := fun y => y = q2) _ _ _ rfl).trans (Chg.tI _ _ _ rfl)).trans (Chg.tO _ _ _ rfl)
              have k12 : rk ν12.2 q2 = 21 := by rw [e12]; exact k11
              have i12 : rI ν12.2 q2 2 = nI c := by rw [e12]; show rI (tI (tO ν11.2 q2 0 (some x)) q2 2 (nI c)) q2 2 = _; rw [rI_tI, if_pos ⟨rfl, rfl⟩]
              have oa : rO ν12.2 q2 0 = some x := by rw [e12]; show rO (tO (tI (tO ν11.2 q2 0 (some x)) q2 2 (nI c)) q2 1 (some x')) q2 0 = _; rw [rO_tO, if_neg (by omega)]; show rO (tO ν11.2 q2 0 (some x)) q2 0 = _; rw [rO_tO, if_pos ⟨rfl, rfl⟩]
              have ob : rO ν12.2 q2 1 = some x' := by rw [e12]; show rO (tO (tI (tO ν11.2 q2 0 (some x)) q2 2 (nI c)) q2 1 (some x')) q2 1 = _; rw [rO_tO, if_pos ⟨rfl, rfl⟩]
              have f12 : ν12.1 = ν11.1 := by rw [e12]
              clear e12
              have nN : ∀ y, N y → y ≠ q2 := fun y hy w => V7.1 y hy (by rw [w]; exact hq7)
              have nN' : ∀ y, N' y → y ≠ q2 := fun y hy w => by
                have := z11 y hy
                rw [w, k10] at this; cases this
              have sa : Sme N ν7.2 ν12.2 := fun y hy => Eqa.trans ((o10.trans o11) y (V7.1 y hy)) (c12.2 y (by rw [((o10.trans o11) y (V7.1 y hy)).1]; exact V7.1 y hy) (nN y hy))
              have sb' : Sme N' ν11.2 ν12.2 := c12.sme (fun y hy => ⟨V11.1 y hy, nN' y hy⟩)
              have V12 : TTs al b0 (3 * r + 4) (fun y => N y ∨ N' y ∨ y = q2) ν12.2 q2 (cs ++ ds ++ [opC c]) := by
                refine ⟨fun y hy => ?_, fun ρ' hs' => ?_⟩
                · rcases hy with w | w | w
                  · rw [(sa y w).1]; exact V7.1 y w
                  · rw [(sb' y w).1]; exact V11.1 y w
                  · rw [w, k12]; decide
                · have eq := hs' q2 (Or.inr (Or.inr rfl))
                  exact Or.inr (Or.inr (Or.inl ⟨rcO (by rw [eq.1]; exact k12) (by decide), c, x, x', cs, ds, hcc, rfl, by rw [eq.2.2.1]; exact i12, by rw [eq.2.2.2.2]; exact oa, by rw [eq.2.2.2.2]; exact ob, V7.2 ρ' (fun y hy => (sa y hy).trans (hs' y (Or.inl hy))), V11.2 ρ' (fun y hy => (sb' y hy).trans (hs' y (Or.inr (Or.inl hy))))⟩))
              refine hQ ν12 q2 _ _ _ _ rfl ?_ ?_ (by rw [f12]; exact T11) (by omega) (Nat.le_refl _) rfl V12 ?_
              · rw [f12]; exact x9.trans (by rw [← f10]; exact f11)
              · exact (o010.trans o11).chg c12 (fun y hy => by rw [hy]; exact hq0)
              · intro y hy
                rcases hy with w | w | w
                · exact o06.z (z7 y w)
                · exact o010.z (z11 y w)
                · rw [w]; exact hq0
          rw [i_60, byX_eq (fun z => hT.t z) (by decide), i_62, byX_eq (fun z => hT.t z) (by decide), i_61, byX_eq (fun z => hT.t z) (by decide)]
          refine ⟨fun w => than 60 (by decide) (by decide) w, fun w0 => ⟨fun w => than 62 (by decide) (by decide) w, fun w2 => ⟨fun w => than 61 (by decide) (by decide) w, fun w1 => ?_⟩⟩⟩
          have zo : opC (bt t e (lk t e b)) = 0 := by
            rcases opC_iff (c := bt t e (lk t e b)) with w | w
            · exact w.1
            · rcases w.2 with u | u | u
              · exact absurd u w0
              · exact absurd u w1
              · exact absurd u w2
          rw [if_pos zo] at hE
          show xw_X2_wrong 1 (fI (sI ν7.1 1 2 (nI (lk t e b))) 1 2) _ _
          rw [T8.2.1, i_1]
          exact xl_wrong (fun ν' f' g' d' => hE ν' _ (Or.inl rfl) (x8.r.trans f'.r) (o07.trans (Old.eq g')) d')
      · rw [u3] at hL hp
        exact absurd ⟨hL, hp⟩ hnb
    · rw [lk_lk ha] at hL hp d5
      have n85 : ¬ hereW t e (lk t e a) (str 85) := fun w => by have := w.2.1; rw [hp] at this; cases this
      have n88 : ¬ hereW t e (lk t e a) (str 88) := fun w => by have := w.2.1; rw [hp] at this; cases this
      have hspec := pFa_sum (AT := pAtom al t e r) (rec := recF al t e r) z n85 n88
      rw [sum_bad hL hp] at hspec
      exact hE ν5 _ (Or.inl hspec) (x1.r.trans f5.r) o5 d5
  · -- a bracket
    have hlt : lk t e a < e := by
      unfold bt at z
      split at z
      · assumption
      · omega
    show xw_X2_opens (fI (sI ν.1 1 2 (nI (lk t e a))) 1 2) _ _ _
    rw [v2]
    refine xl_opens (r := r) R1.2.1.1 R1.2.1.2 (fun ν3 hr e3 g3 => ?_) (fun ν3 hr f3 g3 d3 => ?_)
    · obtain ⟨r', rfl⟩ : ∃ r', r = r' + 1 := ⟨r - 1, by omega⟩
      have hTe' := hTe r' rfl
      have hvs : adv e (pTest (pFact al t e r') t e) := adv_test (adv_fact al t e r')
      have hspec : pFactG (pAtom al t e (r' + 1)) (recF al t e (r' + 1)) t e a = pB (pTest (pFact al t e r') t e (lk t e a + 1)) (fun cs b => pB (pSign 93 t e b) (fun _ b2 => .inl (cs, b2))) := pFa_sqS z
      rw [hspec] at hb1 hb2 hQ hE
      have e3 : ν3.1 = sI (sI ν.1 1 2 (nI (lk t e a))) 1 4 (nI (6 - r')) := e3
      have R3 : Rd ν3 t e (lk t e a) r' cx b0 := R1.op e3 g3
      intro ν4 e4
      have at3 : fI ν3.1 1 2 = nI (lk t e a) := R3.1.2.1
      have f34 : XTt ν3.1 ν4.1 := by rw [e4]; exact XTt.at _ _
      have g34 : ν4.2 = ν3.2 := by rw [e4]
      have T4 : Tk ν4.1 t e (lk t e a + 1) := by
        rw [e4]
        show Tk (sI ν3.1 1 2 (fI ν3.1 1 2 + 1)) t e _
        rw [at3, nI_1]
        exact R3.1.mv (by omega)
      have R4 : Rd ν4 t e (lk t e a + 1) r' cx b0 := R3.mv f34 (Old.eq g34) T4
      clear e4
      have g4 : ν4.2 = ν.2 := g34.trans g3
      have f4 : XTt (sI (sI ν.1 1 2 (nI (lk t e a))) 1 4 (nI (6 - r'))) ν4.1 := by rw [← e3]; exact f34
      have cl : ∀ (σ : FS), XTt ν4.1 σ → XTt ν.1 (sI σ 1 4 (fI σ 1 4 - 1)) := fun σ f => by
        have h1 := (f4.trans f).re (w := nI (6 - (r' + 1))) R1.2.1.1
        have h2 : fI σ 1 4 = nI (6 - r') := by rw [f.1 1 4 (fun _ => ⟨by decide, by decide⟩) (by decide)]; exact R4.2.1.1
        have h3 := hR.2.1.2
        rw [h2, i_1, pk_sub (by omega), show 6 - r' - 1 = 6 - (r' + 1) by omega]
        exact x1.trans h1
      have clT : ∀ (σ : FS) (c : Nat), Tk σ t e c → Tk (sI σ 1 4 (fI σ 1 4 - 1)) t e c := fun σ c h => h.to (XRr.op _ _) (by rw [fI_sI, if_neg (by omega)]; exact h.2.1) h.2.2.2.1
      have fl : ∀ (σ : FS), XRr ν4.1 σ → XRr ν.1 σ := fun σ f => x1.r.trans ((f4.r.trans f).op2)
      cases hs : pTest (pFact al t e r') t e (lk t e a + 1) with
      | inr q =>
        rw [hs] at hb2 hE
        obtain ⟨w1, w2⟩ := hb2 q rfl
        refine ⟨k, n, 0, 0, by omega, by omega, ?_⟩
        refine hTe' ν4 _ k n _ _ R4 (fun cs b hh => by rw [hs] at hh; cases hh) (fun q' hh => ⟨by omega, by omega⟩) (fun ν' x N cs b b' hh => by rw [hs] at hh; cases hh) (fun ν' q' hh f' o' d' => ?_)
        rcases hh with hh | ⟨cs', b', hh, -⟩
        · rw [hs] at hh
          cases hh
          exact hE ν' _ (Or.inl rfl) (fl _ f') ((Old.eq g4).trans o') d'
        · rw [hs] at hh; cases hh
      | inl cb =>
        obtain ⟨cs, b⟩ := cb
        obtain ⟨⟨u1, u2⟩, u3⟩ := hvs _ cs b (by omega) hs
        rw [hs] at hb1 hb2 hQ hE
        simp only [pB_inlR] at hb1 hb2 hQ hE
        obtain ⟨m1, m2, m3, m4⟩ := lk_spec (t := t) u3
        have hnb := nx_le (t := t) u3
        have hkk : 62 * (b - (lk t e a + 1)) ≤ k + 20 ∧ 420 * (b - (lk t e a + 1)) + 4 * nx t e b ≤ n + 220 := by
          by_cases z4 : bt t e (lk t e b) = 93
          · rw [sign_ok z4] at hb1
            have h1 : 62 * (lk t e b + 1 - a) ≤ k + 40 ∧ 420 * (lk t e b + 1 - a) + 0 * nx t e (lk t e b + 1) ≤ n + 300 := hb1 _ _ rfl
            have h2 : nx t e b = 0 := nx_0 (by rw [z4]; decide)
            omega
          · rw [sign_no z4] at hb2
            have := hb2 _ rfl
            omega
        refine ⟨k, n, 0, 0, by omega, by omega, ?_⟩
        refine hTe' ν4 _ k n _ _ R4 (fun cs' b' hh => by rw [hs] at hh; cases hh; exact hkk) (fun q' hh => by rw [hs] at hh; cases hh) (fun ν5 x N cs' b' p' hh f5 o5 T5 p1 p2 p3 V5 z5 => ?_) (fun ν' q' hh f' o' d' => ?_)
        · rw [hs] at hh
          cases hh
          refine xl_must (c := 93) T5 (by decide) (fun ν6 hbt f6 g6 T6 => ?_) (fun ν6 hbt f6 g6 d6 => ?_)
          · rw [p3] at hbt T6
            rw [sign_ok hbt] at hQ
            intro ν7 e7
            have g7 : ν7.2 = ν5.2 := by rw [e7]; exact g6
            refine hQ ν7 x N cs _ _ rfl (by rw [e7]; exact cl _ (f5.trans f6)) (by rw [g7]; exact (Old.eq g4).trans o5) (by rw [e7]; exact clT _ _ T6) (by omega) (Nat.le_refl _) rfl (by rw [g7]; exact V5.up (by omega)) (fun y hy => by rw [← g4]; exact z5 y hy)
          · rw [p3] at hbt d6
            rw [sign_no hbt] at hE
            exact hE ν6 _ (Or.inl rfl) (fl _ (f5.r.trans f6.r)) ((Old.eq g4).trans (o5.trans (Old.eq g6))) d6
        · rcases hh with hh | ⟨cs', b', hh, h1, h2, h3⟩
          · rw [hs] at hh; cases hh
          · rw [hs] at hh
            cases hh
            have n93 : ¬ bt t e (lk t e b) = 93 := fun w => by rw [w] at h2; exact absurd h2 (by decide)
            rw [sign_no n93] at hE
            rw [h1] at d'
            exact hE ν' _ (Or.inl rfl) (fl _ f') ((Old.eq g4).trans o') d'
    · subst hr
      have hspec : pFactG (pAtom al t e 0) (recF al t e 0) t e a = .inr (4, lk t e a) := pFa_sqN z
      exact hE ν3 _ (Or.inl hspec) (x1.r.trans f3.r) (Old.eq g3) d3
def FCr : Nat → XN → Nat → Nat → (Nat → XN → Prop) → (XN → Prop) → Prop
  | 0 => xw_X2_fact (ATr 0) (fun _ _ _ _ _ => False)
  | r + 1 => xw_X2_fact (ATr (r + 1)) (FCr r)
theorem xl_factV {al : Nat → Bool} {b0 e cx : Nat} {t : Nat → Nat} (hcx : cxOK al cx) : ∀ r, r ≤ 6 → ElT al b0 (3 * r + 4) t e r cx 0 40 300 100 1300 (pFact al t e r) (FCr r)
  | 0, h => by
    rw [pFact_rec]
    exact xl_factG (xl_sumAll hcx h) (fun r' hr => by cases hr)
  | r + 1, h => by
    rw [pFact_rec]
    exact xl_factG (xl_sumAll hcx h) (fun r' hr => by
      cases hr
      exact xl_factV hcx r (by omega))
theorem xl_testAll {al : Nat → Bool} {b0 e cx r : Nat} {t : Nat → Nat} {AT : XN → Nat → Nat → (Nat → XN → Prop) → (XN → Prop) → Prop} (hcx : cxOK al cx) (hr : r ≤ 6) : ElT al b0 (3 * r + 6) t e r cx 4 20 220 120 1380 (pTest (pFact al t e r) t e) (xw_X2_test AT (FCr r)) := by
  have h1 := xl_bothV (AT := AT) (xl_factV (b0 := b0) (t := t) (e := e) hcx r hr) (adv_fact al t e r) (by decide) (by decide) (by decide) (by decide)
  exact xl_testV (AT := AT) h1 (adv_both (adv_fact al t e r)) (by decide) (by decide) (by decide) (by decide)
