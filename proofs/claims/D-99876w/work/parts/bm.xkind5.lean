/-! THE SYSTEM: what a person knows, told -/
def kKnow (t : Nat → Nat) (e : Nat) (D : Dr) (a : Nat) : PR Dr := pB (pOf (plN D.1) t e a) (fun p b => pB (pExp (str 19) t e b) (fun _ b2 => pB (pOf (plT D.1) t e b2) (fun k b3 => if dK D p.1 / 2 ^ k.1 % 2 = 1 then .inr (3, k.2) else .inl ((D.1, dH D, dA D, dT D, up (dK D) p.1 (dK D p.1 ||| 2 ^ k.1)), b3))))
theorem pKnow_k {t : Nat → Nat} {e a : Nat} {D : Dr} : pKnow D t e a = pB (kKnow t e D a) (fun D' b => pFin D' t e b) := by
  unfold pKnow kKnow
  rw [pB_assoc]
  congr 1
  funext q b
  rw [pB_assoc]
  congr 1
  funext q2 b2
  rw [pB_assoc]
  congr 1
  funext q3 b3
  split
  · rfl
  · rfl
theorem xl_kKnow {ν0 : XN} {t : Nat → Nat} {e b m : Nat} : StK ν0 t e b m (kKnow t e) (fun ν k n Q E => xw_X2_knows ν k n Q E) := by
  intro ν a k n D Q E hS hd hb1 hb2 hQ hE
  have hT5 : nT D.1 ≤ 5 := hd.1.2.2.2.1
  have hP7 : nP D.1 ≤ 7 := hd.1.2.2.2.2.1
  have lT : (plT D.1).length ≤ 5 := hT5
  have lP : (plN D.1).length ≤ 7 := hP7
  have ha : a ≤ e := hS.1.2.2.2.1
  have hD := hS.2.2.2.2.2.2
  obtain ⟨h1, h2, h3, -, ⟨lp, pa, p1, p2, p3, p4⟩, -⟩ := hD.parts
  have hnxe := nx_le (t := t) ha
  show xw_X2_knows ν k n Q E
  have hspec : kKnow t e D a = pB (pOf (plN D.1) t e a) (fun p b => pB (pExp (str 19) t e b) (fun _ b2 => pB (pOf (plT D.1) t e b2) (fun k b3 => if dK D p.1 / 2 ^ k.1 % 2 = 1 then .inr (3, k.2) else .inl ((D.1, dH D, dA D, dT D, up (dK D) p.1 (dK D p.1 ||| 2 ^ k.1)), b3)))) := rfl
  rw [hspec] at hb1 hb2 hQ hE
  -- what is left is enough
  have hkn : 40 ≤ k ∧ 2 * nx t e a + 200 ≤ n ∧ ∀ x p, pOf (plN D.1) t e a = .inl (x, p) → 2 * nx t e a + 2 * nx t e p + 200 ≤ n ∧ ∀ u p2, pExp (str 19) t e p = .inl (u, p2) → 2 * nx t e a + 2 * nx t e p + 2 * nx t e p2 + 200 ≤ n := by
    cases hs : pOf (plN D.1) t e a with
    | inr q =>
      rw [hs] at hb2
      have := hb2 _ rfl
      exact ⟨by omega, by omega, fun x p z => by cases z⟩
    | inl cb =>
      obtain ⟨x, p⟩ := cb
      rw [hs] at hb1 hb2
      simp only [pB_inlR] at hb1 hb2
      have n1 := nx_of ha hs
      have n2 := nx_le (t := t) n1.2.2
      have big : 40 ≤ k ∧ 2 * nx t e a + 2 * nx t e p + 200 ≤ n ∧ ∀ u p2, pExp (str 19) t e p = .inl (u, p2) → 2 * nx t e a + 2 * nx t e p + 2 * nx t e p2 + 200 ≤ n := by
        cases hs2 : pExp (str 19) t e p with
        | inr q =>
          rw [hs2] at hb2
          have := hb2 _ rfl
          exact ⟨by omega, by omega, fun u p2 z => by cases z⟩
        | inl cb2 =>
          obtain ⟨u, p2⟩ := cb2
          rw [hs2] at hb1 hb2
          simp only [pB_inlR] at hb1 hb2
          have n3 := nx_exp n1.2.2 hs2
          have n4 := nx_le (t := t) n3.2.2
          have big2 : 40 ≤ k ∧ 2 * nx t e a + 2 * nx t e p + 2 * nx t e p2 + 200 ≤ n := by
            cases hs3 : pOf (plT D.1) t e p2 with
            | inr q =>
              rw [hs3] at hb2
              have := hb2 _ rfl
              omega
            | inl cb3 =>
              obtain ⟨y, p3⟩ := cb3
              rw [hs3] at hb1 hb2
              simp only [pB_inlR] at hb1 hb2
              have n5 := nx_of n3.2.2 hs3
              by_cases hkk : dK D x.1 / 2 ^ y.1 % 2 = 1
              · rw [if_pos hkk] at hb2
                have := hb2 _ rfl
                omega
              · rw [if_neg hkk] at hb1
                have h9 : 80 * (p3 - a) + 40 ≤ k ∧ 600 * (p3 - a) + 4 * nx t e p3 + 400 ≤ n := hb1 _ _ rfl
                omega
          exact ⟨big2.1, by omega, fun u' p2' z => by cases z; exact big2.2⟩
      exact ⟨big.1, by omega, fun x' p' z => by cases z; exact ⟨big.2.1, big.2.2⟩⟩
  obtain ⟨hk40, hn1, hn2⟩ := hkn
  unfold xw_X2_knows
  refine ⟨b, hS.2.2.1, h2, b, hS.2.2.1, h2, lp, p1, 3, 2 * nx t e a + 4, k - 3, n - (2 * nx t e a + 4), by omega, by omega, ?_⟩
  refine xl_known hS.1 hS.ws p2 p3 (Or.inr rfl) (by omega) (by omega) (by omega) (fun ν1 i p hp hi hlt f1 o1 T1 _ => ?_) (fun ν1 q hp f1 o1 d1 => ?_)
  · have S1 := hS.mv f1 o1 T1
    obtain ⟨hn3, hn4⟩ := hn2 _ _ hp
    have hpe := (nx_of ha hp).2.2
    rw [hp] at hb1 hb2 hQ hE
    simp only [pB_inlR] at hb1 hb2 hQ hE
    obtain ⟨ai, hai⟩ : ∃ ai, pa[i]? = some ai := ⟨_, List.getElem?_eq_getElem (show i < pa.length by rw [p3.1]; exact hi)⟩
    have k0 := (p4 i _ hai).1
    have k1 : rk ν1.2 ai = 9 := by rw [(o1 _ (by rw [k0]; decide)).1]; exact k0
    refine ⟨lp, p1, (p2.old o1).1, xl_get (p2.old o1) hai ⟨ai, rfl, rcO k1 (by decide), ?_⟩⟩
    intro b23 hb23
    obtain ⟨mA, m1, m2⟩ := S1.ws.1 4 (by decide)
    rw [hb23] at m1
    cases m1
    rw [cW_4.1] at m2
    refine ⟨3, 2 * nx t e p + 4, k - 6, n - (2 * nx t e a + 4) - (2 * nx t e p + 4), by omega, by omega, ?_⟩
    refine xl_wordE T1 m2 (by omega) (by omega) (fun ν2 hp2 hlt2 f2 o2 T2 => ?_) (fun ν2 q hp2 f2 o2 d2 => ?_)
    · have S2 := S1.mv f2 o2 T2
      have hn5 := hn4 _ _ hp2
      have hpe2 := nx_exp hpe hp2
      generalize hw2 : wE t e (lk t e p) = p2' at *
      rw [hp2] at hb1 hb2 hQ hE
      simp only [pB_inlR] at hb1 hb2 hQ hE
      obtain ⟨y1, y2, -, ⟨lt2, ta2, y3, y4, y5⟩, -⟩ := S2.2.2.2.2.2.2.parts
      refine ⟨b, S2.2.2.1, y2, lt2, y3, 3, 2 * nx t e p2' + 4, k - 9, n - (2 * nx t e a + 4) - (2 * nx t e p + 4) - (2 * nx t e p2' + 4), by omega, by omega, ?_⟩
      refine xl_known S2.1 S2.ws y4 y5 (Or.inl rfl) (by omega) (by omega) (by omega) (fun ν4 j p3' hp3 hj hlt3 f4 o4 T4 fr4 => ?_) (fun ν4 q' hp3 f4 o4 d4 => ?_)
      · have S4 := S2.mv f4 o4 T4
        have o04 : Old ν.2 ν4.2 := (o1.trans o2).trans o4
        obtain ⟨lp', pa', cp', a', z1, z2, z3, z4, z5, z6, z7⟩ := S4.2.2.2.2.2.2.know (p := i) (show i < nP D.1 from hi)
        have ea : a' = ai := by
          have e1 : lp' = lp := by
            rw [(o04 b (by rw [h1]; decide)).2.2.2.2, p1] at z1
            cases z1; rfl
          have e2 := (p2.old o04).2.2
          have e3 := z2.rep.2.2
          rw [e1] at e3
          obtain ⟨ea1, w1, -, -, -, w2⟩ := e2
          obtain ⟨ea2, w3, -, -, -, w4⟩ := e3
          rw [w1] at w3
          cases w3
          have w5 := w2 i _ hai
          have w6 := w4 i _ z3
          rw [w5] at w6
          cases w6; rfl
        rw [← ea]
        have hdk : dK D i < 2 ^ nT D.1 := (hd.2.1.2.2.1 i hi).2.2
        have h31 : (2 : Nat) ^ nT D.1 ≤ 2 ^ 5 := Nat.pow_le_pow_right (by decide) hT5
        rw [hp3] at hQ hE
        simp only [pB_inlR] at hQ hE
        rw [z5]
        refine ⟨rcO z4 (by decide), xl_has (by omega) (by omega) (fun hh => ⟨fun q => absurd q (by decide), fun _ => ?_⟩) (fun hh => ⟨fun _ => ⟨rcO z4 (by decide), z4, ?_⟩, fun q => absurd rfl q⟩)⟩
        · rw [if_pos hh] at hE
          rw [fr4, i_3]
          exact xl_wrong (fun ν' f' g' d' => hE ν' _ (Or.inl rfl) (S4.2.2.2.2.1.trans f'.s) (S4.2.2.2.2.2.1.trans (Old.eq g')) d')
        · rw [if_neg hh] at hQ
          intro ν5 e5
          have e5 : ν5 = (ν4.1, tI ν4.2 a' 3 (nI (dK D i ||| 2 ^ j))) := by rw [e5, z5, i_1, i_31, nI_shl (by omega), nI_or]
          have l1 := (lk_spec (t := t) ha).1
          have l2 := (lk_spec (t := t) hpe2.2.2).1
          refine hQ ν5 _ p3' p3' rfl ?_ (by omega) (Nat.le_refl _) rfl
          exact S4.put (S := fun x => x = a') (by rw [e5]) (by rw [e5]; exact Chg.tI _ _ _ rfl) (fun x hx => by rw [show x = a' from hx]; exact z6) (by rw [e5]; exact z7 _)
      · exact hE ν4 q' (Or.inl (by rw [hp3]; rfl)) (S2.2.2.2.2.1.trans f4.s) (S2.2.2.2.2.2.1.trans o4) d4
    · exact hE ν2 q (Or.inl (by rw [hp2]; rfl)) (S1.2.2.2.2.1.trans f2.s) (S1.2.2.2.2.2.1.trans o2) d2
  · exact hE ν1 q (Or.inl (by rw [hp]; rfl)) (hS.2.2.2.2.1.trans f1.s) (hS.2.2.2.2.2.1.trans o1) d1
