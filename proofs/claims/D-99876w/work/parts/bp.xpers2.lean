/-! THE SYSTEM: a person, walked -/
theorem xl_kPers {ν0 : XN} {t : Nat → Nat} {e b m pl : Nat} : StK ν0 t e b m (kPers pl t e) (fun ν k n Q E => xw_X2_person (nI pl) ν k n Q E) := by
  intro ν a k n D Q E hS hd hb1 hb2 hQ hE
  have hT5 : nT D.1 ≤ 5 := hd.1.2.2.2.1
  have hP7 : nP D.1 ≤ 7 := hd.1.2.2.2.2.1
  have hC := hd.1.1
  have hR := hd.1.2.1
  have ha : a ≤ e := hS.1.2.2.2.1
  have hD := hS.2.2.2.2.2.2
  obtain ⟨h1, h2, h3, -, ⟨lp, pa, p1, p2, p3, p4⟩, -⟩ := hD.parts
  have hlen : (plN D.1).length = nP D.1 := rfl
  show xw_X2_person (nI pl) ν k n Q E
  unfold xw_X2_person
  refine ⟨b, hS.2.2.1, h2, lp, p1, p2.1, xl_size p2 ?_⟩
  rw [p3.1, hlen, i_7, nI_eq (by omega) (by omega)]
  refine ⟨fun z => ?_, fun z => ?_⟩
  · rw [kP_e z] at hb1 hb2 hQ hE
    have hnd : nd t e k n (pB (pNew D.1 t e a) (fun w b => kP1 t e D w b)) a := ⟨fun y p h => by have := hb1 y p h; omega, fun q h => hb2 q h⟩
    have hA1 : ∀ y q, pB (pNew D.1 t e a) (fun w b => kP1 t e D w b) = .inl (y, q) → a + nx t e a ≤ q := fun y q h => by
      obtain ⟨w, p, y1, y2⟩ := pB_ok h
      have q1 := new_adv ha y1
      have q2 := kP1_adv q1.2.2 y2
      omega
    have b0 := hnd.lo
    have b1 := hnd.at ha (Nat.le_refl a) hA1
    unfold xw_X2_person_23
    refine xl_most (y := 0) (by decide) (fun _ => ?_) (fun ν' q => by cases q)
    refine ⟨3, 2 * nx t e a + 4, k - 3, n - (2 * nx t e a + 4), by omega, by omega, ?_⟩
    refine xl_fresh hS.1 hS.ws hS.2.2.1 hD hT5 hP7 (by omega) (by omega) (fun ν1 r w p hp hlp f1 o1 T1 s1 => ?_) (fun ν1 q' hp f1 o1 d1 => ?_)
    · have S1 := hS.mv f1 o1 T1
      have ad1 := new_adv ha hp
      rw [hp] at hnd hQ hE
      simp only [pB_inlR] at hnd hQ hE
      have b2 := hnd.at ad1.2.2 (by omega) (fun y q h => (kP1_adv ad1.2.2 h).1)
      intro b18 hb18
      obtain ⟨mA, m1, m2⟩ := S1.ws.1 2 (by decide)
      rw [hb18] at m1
      cases m1
      rw [cW_4.2.1] at m2
      refine ⟨3, 2 * nx t e p + 4, k - 6, n - (2 * nx t e a + 4) - (2 * nx t e p + 4), by omega, by omega, ?_⟩
      refine xl_wordE T1 m2 (by omega) (by omega) (fun ν2 hp2 hlt2 f2 o2 T2 => ?_) (fun ν2 q hp2 f2 o2 d2 => ?_)
      · have S2 := S1.mv f2 o2 T2
        have ad2 := nx_exp ad1.2.2 hp2
        generalize hw2 : wE t e (lk t e p) = p2' at *
        unfold kP1 at hnd hQ hE
        rw [hp2] at hnd hQ hE
        simp only [pB_inlR] at hnd hQ hE
        refine xl_cellP S2.1 S2.2.2.1 S2.2.2.2.2.2.2 (by omega) (by omega) (fun ν3 c pc p3' hp3 hc hlt3 f3 g3 T3 fr3 => ?_) (fun ν3 q hp3 f3 g3 d3 => ?_)
        · have S3 := S2.mv f3 (Old.eq g3) T3
          have ad3 := cell_adv ad2.2.2 hp3
          unfold kP2 at hnd hQ hE
          rw [hp3] at hnd hQ hE
          simp only [pB_inlR] at hnd hQ hE
          obtain ⟨x1, x2, -, -, ⟨lp3, pa3, x3, x4, x5, x6⟩, -⟩ := S3.2.2.2.2.2.2.parts
          refine ⟨b, S3.2.2.1, x2, ?_⟩
          have hAc : ∀ p, p < nP D.1 → dA D p < 1000 := fun p hp => by
            have h9 := (hd.2.1.2.2.1 p hp).1
            have h9 : isC D.1 (dA D p) := h9
            unfold isC at h9
            omega
          refine xl_isTaken S3.2.2.2.2.2.2 hP7 hAc hc (fun ht => ⟨fun q => absurd q (by decide), fun _ => ?_⟩) (fun ht => ⟨fun _ => ?_, fun q => absurd rfl q⟩)
          · rw [if_pos ht] at hE
            rw [fr3, i_2]
            exact xl_wrong (fun ν' f' g' d' => hE ν' _ (Or.inl rfl) (S3.2.2.2.2.1.trans f'.s) (S3.2.2.2.2.2.1.trans (Old.eq g')) d')
          · have htn : ¬ tkn D c = true := by rw [ht]; decide
            rw [if_neg htn] at hnd hQ hE
            have b3 := hnd.at ad3.2 (by omega) (fun y q h => (kP3_adv ad3.2 h).1)
            refine ⟨b, S3.2.2.1, x2, k - 7, n - (2 * nx t e a + 4) - (2 * nx t e p + 4) - 4, by omega, by omega, fun q hq ν4 e4 => ?_⟩
            have f4 : ν4.1 = ν3.1 := by rw [e4]
            have k4 : rk ν4.2 q = 9 := by rw [e4]; show rk (tN ν3.2 q 9 0) q = 9; rw [rk_tN, if_pos rfl]
            have i4 : rI ν4.2 q 3 = nI 0 := by rw [e4]; show rI (tN ν3.2 q 9 0) q 3 = _; rw [rI_tN, if_pos rfl]; rfl
            have c4 : Chg (fun y => y = q) ν3.2 ν4.2 := by rw [e4]; exact Chg.tN _ _ _ hq
            clear e4
            have hq0 : rk ν3.2 q = 0 := hq
            have o4 : Old ν3.2 ν4.2 := (Old.refl _).chg c4 (fun y hy => by rw [show y = q from hy]; exact hq0)
            have S4 : SD ν0 ν4 t e p3' b D m := S3.mv (by rw [f4]; exact XTt.refl _) o4 (by rw [f4]; exact T3)
            intro b45 hb45
            obtain ⟨mB, m3, m4⟩ := S4.ws.1 3 (by decide)
            rw [hb45] at m3
            cases m3
            rw [cW_4.2.2] at m4
            refine ⟨3, 2 * nx t e p3' + 4, k - 10, n - (2 * nx t e a + 4) - (2 * nx t e p + 4) - 4 - (2 * nx t e p3' + 4), by omega, by omega, ?_⟩
            unfold xw_X2_number_2
            refine ⟨3, 2 * nx t e p3' + 4, 0, 0, by omega, by omega, ?_⟩
            refine xl_wordE S4.1 m4 (by omega) (by omega) (fun ν5 hp5 hlt5 f5 o5 T5 => ?_) (fun ν5 q' hp5 f5 o5 d5 => ?_)
            · have S5 := S4.mv f5 o5 T5
              have ad5 := nx_exp ad3.2 hp5
              generalize hw5 : wE t e (lk t e p3') = p5' at *
              unfold kP3 at hQ hE
              rw [hp5] at hQ hE
              simp only [pB_inlR] at hQ hE
              rw [i_0, i_9]
              refine xl_number T5 (by decide) (by decide) (fun ν6 v p6 hp6 hv hlt6 f6 g6 T6 _ => ?_) (fun ν6 q' hp6 f6 g6 d6 => ?_)
              · rw [hp6] at hQ
                have S6 := S5.mv f6 (Old.eq g6) T6
                have o36 : Old ν3.2 ν6.2 := o4.trans (o5.trans (Old.eq g6))
                have o46 : Old ν4.2 ν6.2 := o5.trans (Old.eq g6)
                have k6 : rk ν6.2 q = 9 := by rw [(o46 q (by rw [k4]; decide)).1]; exact k4
                have i6 : rI ν6.2 q 3 = nI 0 := by rw [(o46 q (by rw [k4]; decide)).2.2.1]; exact i4
                have s6 : SRep ν6.2 r w := (s1.old (o2.trans (Old.eq g3))).old o36
                unfold xw_X8_init xw_X7_init
                refine ⟨Or.inr k6, ?_⟩
                intro νa ea
                subst ea
                refine ⟨k6, ?_⟩
                intro νb eb
                subst eb
                refine ⟨k6, ?_⟩
                intro ν7 e7
                have f7 : ν7.1 = ν6.1 := by rw [e7]
                have c7 : Chg (fun y => y = q) ν6.2 ν7.2 := by rw [e7]; exact ((Chg.tO (S := fun y => y = q) _ _ _ rfl).trans (Chg.tI _ _ _ rfl)).trans (Chg.tI _ _ _ rfl)
                have k7 : rk ν7.2 q = 9 := by rw [e7]; exact k6
                have r7 : rO ν7.2 q 0 = some r := by rw [e7]; show rO (tO ν6.2 q 0 (some r)) q 0 = _; rw [rO_tO, if_pos ⟨rfl, rfl⟩]
                have i7 : rI ν7.2 q 1 = nI c ∧ rI ν7.2 q 2 = nI v ∧ rI ν7.2 q 3 = nI 0 := by
                  rw [e7]
                  refine ⟨?_, ?_, ?_⟩
                  · show rI (tI (tI (tO ν6.2 q 0 (some r)) q 1 (nI c)) q 2 (nI v)) q 1 = _; rw [rI_tI, if_neg (by omega), rI_tI, if_pos ⟨rfl, rfl⟩]
                  · show rI (tI (tI (tO ν6.2 q 0 (some r)) q 1 (nI c)) q 2 (nI v)) q 2 = _; rw [rI_tI, if_pos ⟨rfl, rfl⟩]
                  · show rI (tI (tI (tO ν6.2 q 0 (some r)) q 1 (nI c)) q 2 (nI v)) q 3 = _; rw [rI_tI, if_neg (by omega), rI_tI, if_neg (by omega)]; exact i6
                clear e7
                have s7 : SRep ν7.2 r w := s6.kp c7 (fun x hx => rcN (c := 9) (by rw [show x = q from hx]; exact k6) (by decide) (by decide))
                have o7 : Old ν3.2 ν7.2 := o36.chg c7 (fun y hy => by rw [show y = q from hy]; exact hq0)
                have S7 : SD ν0 ν7 t e p6 b D m := S3.mv (by rw [f7, ← f4]; exact f5.trans f6) o7 (by rw [f7]; exact T6)
                obtain ⟨la, as, cc, y1, y2, y3, y4, y5⟩ := S3.2.2.2.2.2.2.addN o7 hq0 k7 r7 s7 i7
                have hla : la = lp3 := by
                  rw [(o7 b (by rw [x1]; decide)).2.2.2.2, x3] at y1
                  cases y1; rfl
                have hg := gr_le (c := cc) (m := as.length) y2.2.2.2.2.2.1
                have hal : as.length = nP D.1 := y3
                refine ⟨lp3, x3, by rw [← hla]; exact y2.rep.1, 1, 4 * (grw cc as.length - cc), 0, 0, by omega, by omega, ?_⟩
                rw [← hla]
                refine xl_addP y2 (by rw [rcO k7 (by decide)]; decide) (by omega) (by omega) (by omega) (fun ν8 e8 L8 c8 z8 => ?_)
                have l5 := (lk_spec (t := t) ad5.2.2).1
                exact hQ ν8 _ p6 p6 rfl (S7.put e8 c8 (fun x hx => y4 x hx) (y5 _ L8 c8 z8)) (by omega) (Nat.le_refl _) rfl
              · exact hE ν6 q' (Or.inl (by rw [hp6]; rfl)) (S5.2.2.2.2.1.trans f6.s) (S5.2.2.2.2.2.1.trans (Old.eq g6)) d6
            · refine hE ν5 q' (Or.inl ?_) (S4.2.2.2.2.1.trans f5.s) (S4.2.2.2.2.2.1.trans o5) d5
              unfold kP3
              rw [hp5]; rfl
        · refine hE ν3 q (Or.inl ?_) (S2.2.2.2.2.1.trans f3.s) (S2.2.2.2.2.2.1.trans (Old.eq g3)) d3
          unfold kP2
          rw [hp3]; rfl
      · refine hE ν2 q (Or.inl ?_) (S1.2.2.2.2.1.trans f2.s) (S1.2.2.2.2.2.1.trans o2) d2
        unfold kP1
        rw [hp2]; rfl
    · exact hE ν1 q' (Or.inl (by rw [hp]; rfl)) (hS.2.2.2.2.1.trans f1.s) (hS.2.2.2.2.2.1.trans o1) d1
  · unfold xw_X2_person_23
    refine xl_most (y := 1) (by decide) (fun q => by cases q) (fun ν' _ f g d => ?_)
    have hspec : kPers pl t e D a = .inr (5, pl) := by unfold kPers; rw [if_pos z]
    exact hE ν' _ (Or.inl hspec) (hS.2.2.2.2.1.trans f.s) (hS.2.2.2.2.2.1.trans (Old.eq g)) d
