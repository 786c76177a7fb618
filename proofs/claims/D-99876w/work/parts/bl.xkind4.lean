/-! THE SYSTEM: what is asked for, told -/
def kList (pl : Nat) (t : Nat → Nat) (e : Nat) (D : Dr) (a : Nat) : PR Dr := if (plL D.1).length = 12 then .inr (5, pl) else pB (pOf (plN D.1) t e a) (fun p b => pB (pExp (str 19) t e b) (fun _ b2 => pB (pOf (plT D.1) t e b2) (fun k b3 => .inl ((addL D.1 (p.1, k.1), D.2), b3))))
theorem pList_k {t : Nat → Nat} {e a pl : Nat} {D : Dr} : pList D pl t e a = pB (kList pl t e D a) (fun D' b => pFin D' t e b) := by
  unfold pList kList
  split
  · rfl
  · rw [pB_assoc]
    congr 1
    funext q b
    rw [pB_assoc]
    congr 1
    funext q2 b2
    rw [pB_assoc]
    rfl
theorem nx_of {ws : List (List Nat)} {t : Nat → Nat} {e a p : Nat} {q : Nat × Nat} (ha : a ≤ e) (h : pOf ws t e a = .inl (q, p)) : nx t e a ≤ p - a ∧ a < p ∧ p ≤ e := by
  have l1 := (lk_spec (t := t) ha).1
  obtain ⟨x, b1, h1, h2⟩ := pB_ok h
  have := nx_name ha h1
  have hb : a < b1 ∧ b1 ≤ e := by
    obtain ⟨y, b2, h3, h4⟩ := pB_ok h1
    have : a < b2 ∧ b2 ≤ e := by
      unfold pWord at h3
      split at h3
      · rename_i z
        cases h3
        have := wE_spec z.1
        exact ⟨by omega, this.2.1⟩
      · cases h3
    split at h4
    · cases h4
    · split at h4
      · cases h4
      · cases h4; exact this
  split at h2
  · cases h2; exact ⟨this, hb⟩
  · cases h2
theorem nx_exp {w : List Nat} {t : Nat → Nat} {e a p : Nat} {u : Unit} (ha : a ≤ e) (h : pExp w t e a = .inl (u, p)) : nx t e a ≤ p - a ∧ a < p ∧ p ≤ e := by
  obtain ⟨x, b1, h1, h2⟩ := pB_ok h
  have h3 := nx_word ha h1
  have l1 := (lk_spec (t := t) ha).1
  split at h2
  · cases h2
    unfold pWord at h1
    split at h1
    · rename_i z
      cases h1
      have := wE_spec z.1
      exact ⟨h3, by omega, this.2.1⟩
    · cases h1
  · cases h2
theorem cW_4 : cW 4 = str 19 ∧ cW 2 = str 16 ∧ cW 3 = str 17 := by decide
theorem xl_kList {ν0 : XN} {t : Nat → Nat} {e b m pl : Nat} : StK ν0 t e b m (kList pl t e) (fun ν k n Q E => xw_X2_asking (nI pl) ν k n Q E) := by
  intro ν a k n D Q E hS hd hb1 hb2 hQ hE
  have hT5 : nT D.1 ≤ 5 := hd.1.2.2.2.1
  have hP7 : nP D.1 ≤ 7 := hd.1.2.2.2.2.1
  have hL12 := hd.1.2.2.2.2.2.1
  have lT : (plT D.1).length ≤ 5 := hT5
  have lP : (plN D.1).length ≤ 7 := hP7
  have ha : a ≤ e := hS.1.2.2.2.1
  have hD := hS.2.2.2.2.2.2
  obtain ⟨h1, h2, h3, ⟨lt, ta, t1, t2, t3⟩, ⟨lp, pa, p1, p2, p3, p4⟩, ll, aa, a1, a2, a3⟩ := hD.parts
  have hnxe := nx_le (t := t) ha
  show xw_X2_asking (nI pl) ν k n Q E
  unfold xw_X2_asking
  refine ⟨b, hS.2.2.1, h2, ll, a1, a2.1, xl_size a2 ?_⟩
  rw [a3, i_12, nI_eq (by omega) (by omega)]
  refine ⟨fun z => ?_, fun z => ?_⟩
  · have hspec : kList pl t e D a = pB (pOf (plN D.1) t e a) (fun p b => pB (pExp (str 19) t e b) (fun _ b2 => pB (pOf (plT D.1) t e b2) (fun k b3 => .inl ((addL D.1 (p.1, k.1), D.2), b3)))) := by unfold kList; rw [if_neg z]
    rw [hspec] at hb1 hb2 hQ hE
    -- what is left is enough
    have hkn : 40 ≤ k ∧ 2 * nx t e a + 200 ≤ n ∧ ∀ x p, pOf (plN D.1) t e a = .inl (x, p) → 2 * nx t e a + 2 * nx t e p + 200 ≤ n ∧ ∀ u p2, pExp (str 19) t e p = .inl (u, p2) → 2 * nx t e a + 2 * nx t e p + 2 * nx t e p2 + 200 ≤ n := by
      cases hs : pOf (plN D.1) t e a with
      | inr q =>
        rw [hs] at hb2
        have := hb2 _ rfl
        exact ⟨by omega, by omega, fun x p z => by cases z⟩
      | inl cb =>
        obtain ⟨x, p⟩ := cb
        rw [hs] at hb1 hb2
        simp only [pB_inlR] at hb1 hb2
        have n1 := nx_of ha hs
        have n2 := nx_le (t := t) n1.2.2
        have big : 40 ≤ k ∧ 2 * nx t e a + 2 * nx t e p + 200 ≤ n ∧ ∀ u p2, pExp (str 19) t e p = .inl (u, p2) → 2 * nx t e a + 2 * nx t e p + 2 * nx t e p2 + 200 ≤ n := by
          cases hs2 : pExp (str 19) t e p with
          | inr q =>
            rw [hs2] at hb2
            have := hb2 _ rfl
            exact ⟨by omega, by omega, fun u p2 z => by cases z⟩
          | inl cb2 =>
            obtain ⟨u, p2⟩ := cb2
            rw [hs2] at hb1 hb2
            simp only [pB_inlR] at hb1 hb2
            have n3 := nx_exp n1.2.2 hs2
            have n4 := nx_le (t := t) n3.2.2
            have big2 : 40 ≤ k ∧ 2 * nx t e a + 2 * nx t e p + 2 * nx t e p2 + 200 ≤ n := by
              cases hs3 : pOf (plT D.1) t e p2 with
              | inr q =>
                rw [hs3] at hb2
                have := hb2 _ rfl
                omega
              | inl cb3 =>
                obtain ⟨y, p3⟩ := cb3
                rw [hs3] at hb1
                have n5 := nx_of n3.2.2 hs3
                have h9 : 80 * (p3 - a) + 40 ≤ k ∧ 600 * (p3 - a) + 4 * nx t e p3 + 400 ≤ n := hb1 _ _ rfl
                omega
            exact ⟨big2.1, by omega, fun u' p2' z => by cases z; exact big2.2⟩
        exact ⟨big.1, by omega, fun x' p' z => by cases z; exact ⟨big.2.1, big.2.2⟩⟩
    obtain ⟨hk40, hn1, hn2⟩ := hkn
    unfold xw_X2_asking_23
    refine xl_most (y := 0) (by decide) (fun _ => ?_) (fun ν' q => by cases q)
    refine ⟨b, hS.2.2.1, h2, lp, p1, 3, 2 * nx t e a + 4, k - 3, n - (2 * nx t e a + 4), by omega, by omega, ?_⟩
    refine xl_known hS.1 hS.ws p2 p3 (Or.inr rfl) (by omega) (by omega) (by omega) (fun ν1 i p hp hi hlt f1 o1 T1 _ => ?_) (fun ν1 q hp f1 o1 d1 => ?_)
    · have S1 := hS.mv f1 o1 T1
      obtain ⟨hn3, hn4⟩ := hn2 _ _ hp
      have hpe := (nx_of ha hp).2.2
      rw [hp] at hb1 hb2 hQ hE
      simp only [pB_inlR] at hb1 hb2 hQ hE
      intro b23 hb23
      obtain ⟨mA, m1, m2⟩ := S1.ws.1 4 (by decide)
      rw [hb23] at m1
      cases m1
      rw [cW_4.1] at m2
      refine ⟨3, 2 * nx t e p + 4, k - 6, n - (2 * nx t e a + 4) - (2 * nx t e p + 4), by omega, by omega, ?_⟩
      refine xl_wordE T1 m2 (by omega) (by omega) (fun ν2 hp2 hlt2 f2 o2 T2 => ?_) (fun ν2 q hp2 f2 o2 d2 => ?_)
      · have S2 := S1.mv f2 o2 T2
        have hn5 := hn4 _ _ hp2
        have hpe2 := nx_exp hpe hp2
        generalize hw2 : wE t e (lk t e p) = p2' at *
        rw [hp2] at hb1 hb2 hQ hE
        simp only [pB_inlR] at hb1 hb2 hQ hE
        obtain ⟨y1, y2, -, ⟨lt2, ta2, y3, y4, y5⟩, -, ll2, aa2, y6, y7, y8⟩ := S2.2.2.2.2.2.2.parts
        refine ⟨b, S2.2.2.1, y2, k - 7, n - (2 * nx t e a + 4) - (2 * nx t e p + 4) - 2, by omega, by omega, fun q hq ν3 e3 => ?_⟩
        have f3 : ν3.1 = ν2.1 := by rw [e3]
        have k3 : rk ν3.2 q = 10 := by rw [e3]; show rk (tN ν2.2 q 10 0) q = 10; rw [rk_tN, if_pos rfl]
        have c3 : Chg (fun y => y = q) ν2.2 ν3.2 := by rw [e3]; exact Chg.tN _ _ _ hq
        clear e3
        have hq0 : rk ν2.2 q = 0 := hq
        have o3 : Old ν2.2 ν3.2 := (Old.refl _).chg c3 (fun y hy => by rw [show y = q from hy]; exact hq0)
        have S3 : SD ν0 ν3 t e p2' b D m := S2.mv (by rw [f3]; exact XTt.refl _) o3 (by rw [f3]; exact T2)
        obtain ⟨-, w2, -, ⟨lt3, ta3, w3, w4, w5⟩, -⟩ := S3.2.2.2.2.2.2.parts
        refine ⟨b, S3.2.2.1, w2, lt3, w3, 3, 2 * nx t e p2' + 4, k - 10, n - (2 * nx t e a + 4) - (2 * nx t e p + 4) - 2 - (2 * nx t e p2' + 4), by omega, by omega, ?_⟩
        refine xl_known S3.1 S3.ws w4 w5 (Or.inl rfl) (by omega) (by omega) (by omega) (fun ν4 j p3' hp3 hj hlt3 f4 o4 T4 _ => ?_) (fun ν4 q' hp3 f4 o4 d4 => ?_)
        · rw [hp3] at hQ
          have k4 : rk ν4.2 q = 10 := by rw [(o4 q (by rw [k3]; decide)).1]; exact k3
          unfold xw_X9_init
          refine ⟨k4, ?_⟩
          intro νa ea
          subst ea
          refine ⟨k4, ?_⟩
          intro ν5 e5
          have f5 : ν5.1 = ν4.1 := by rw [e5]
          have c5 : Chg (fun y => y = q) ν4.2 ν5.2 := by rw [e5]; exact (Chg.tI (S := fun y => y = q) _ _ _ rfl).trans (Chg.tI _ _ _ rfl)
          have k5 : rk ν5.2 q = 10 := by rw [e5]; exact k4
          have i5 : rI ν5.2 q 0 = nI i ∧ rI ν5.2 q 1 = nI j := by
            rw [e5]
            constructor
            · show rI (tI (tI ν4.2 q 0 (nI i)) q 1 (nI j)) q 0 = _; rw [rI_tI, if_neg (by omega), rI_tI, if_pos ⟨rfl, rfl⟩]
            · show rI (tI (tI ν4.2 q 0 (nI i)) q 1 (nI j)) q 1 = _; rw [rI_tI, if_pos ⟨rfl, rfl⟩]
          clear e5
          have o5 : Old ν2.2 ν5.2 := (o3.trans o4).chg c5 (fun y hy => by rw [show y = q from hy]; exact hq0)
          have S5 : SD ν0 ν5 t e p3' b D m := S2.mv (by rw [f5, ← f3]; exact f4) o5 (by rw [f5]; exact T4)
          obtain ⟨la, as, c, x1, x2, x3, x4, x5⟩ := S2.2.2.2.2.2.2.addL (p := (i, j)) o5 hq0 k5 i5.1 i5.2
          have hla : la = ll2 := by
            rw [(o5 b (by rw [y1]; decide)).2.2.2.2] at x1
            rw [y6] at x1
            cases x1; rfl
          have hg := gr_le (c := c) (m := as.length) x2.2.2.2.2.2.1
          refine ⟨ll2, y6, by rw [← hla]; exact x2.rep.1, 1, 4 * (grw c as.length - c), 0, 0, by omega, by omega, ?_⟩
          rw [← hla]
          refine xl_addP x2 (by rw [rcO k5 (by decide)]; decide) (by omega) (by omega) (by omega) (fun ν6 e6 L6 c6 z6 => ?_)
          have l1 := (lk_spec (t := t) ha).1
          have l2 := (lk_spec (t := t) hpe2.2.2).1
          exact hQ ν6 _ p3' p3' rfl (S5.put e6 c6 (fun x hx => x4 x hx) (x5 _ L6 c6 z6)) (by omega) (Nat.le_refl _) rfl
        · exact hE ν4 q' (Or.inl (by rw [hp3]; rfl)) (S3.2.2.2.2.1.trans f4.s) (S3.2.2.2.2.2.1.trans o4) d4
      · exact hE ν2 q (Or.inl (by rw [hp2]; rfl)) (S1.2.2.2.2.1.trans f2.s) (S1.2.2.2.2.2.1.trans o2) d2
    · exact hE ν1 q (Or.inl (by rw [hp]; rfl)) (hS.2.2.2.2.1.trans f1.s) (hS.2.2.2.2.2.1.trans o1) d1
  · unfold xw_X2_asking_23
    refine xl_most (y := 1) (by decide) (fun q => by cases q) (fun ν' _ f g d => ?_)
    have hspec : kList pl t e D a = .inr (5, pl) := by unfold kList; rw [if_pos z]
    exact hE ν' _ (Or.inl hspec) (hS.2.2.2.2.1.trans f.s) (hS.2.2.2.2.2.1.trans (Old.eq g)) d
