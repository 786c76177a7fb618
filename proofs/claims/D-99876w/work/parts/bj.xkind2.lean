/-! THE SYSTEM: topics and crowds told -/
theorem nx_word {t : Nat → Nat} {e a p : Nat} {q : List Nat × Nat} (ha : a ≤ e) (h : pWord t e a = .inl (q, p)) : nx t e a ≤ p - a := by
  have l1 := (lk_spec (t := t) ha).1
  unfold pWord at h
  split at h
  · cases h; unfold nx; omega
  · cases h
theorem nx_name {t : Nat → Nat} {e a p : Nat} {q : List Nat × Nat} (ha : a ≤ e) (h : pName t e a = .inl (q, p)) : nx t e a ≤ p - a := by
  obtain ⟨x, b1, h1, h2⟩ := pB_ok h
  have := nx_word ha h1
  split at h2
  · cases h2
  · split at h2
    · cases h2
    · cases h2; exact this
theorem nx_new {P : Pl} {t : Nat → Nat} {e a p : Nat} {w : List Nat} (ha : a ≤ e) (h : pNew P t e a = .inl (w, p)) : nx t e a ≤ p - a := by
  obtain ⟨x, b1, h1, h2⟩ := pB_ok h
  have := nx_name ha h1
  split at h2
  · cases h2
  · cases h2; exact this
def kTopic (pl : Nat) (t : Nat → Nat) (e : Nat) (D : Dr) (a : Nat) : PR Dr := if nT D.1 = 5 then .inr (5, pl) else pB (pNew D.1 t e a) (fun w b => .inl ((addT D.1 w, D.2), b))
theorem pTopic_k {t : Nat → Nat} {e a pl : Nat} {D : Dr} : pTopic D pl t e a = pB (kTopic pl t e D a) (fun D' b => pFin D' t e b) := by
  unfold pTopic kTopic
  split
  · rfl
  · rw [pB_assoc]
    rfl
theorem gr_le {c m : Nat} (h : c ≤ 2 * m + 4) : 4 * (grw c m - c) ≤ 4 * m + 8 := by
  unfold grw
  split <;> omega
theorem xl_kTopic {ν0 : XN} {t : Nat → Nat} {e b m pl : Nat} : StK ν0 t e b m (kTopic pl t e) (fun ν k n Q E => xw_X2_laid_132 (nI pl) 1 ν k n (fun r ν' => r = 1 → Q ν') E) := by
  intro ν a k n D Q E hS hd hb1 hb2 hQ hE
  have hT5 : nT D.1 ≤ 5 := hd.1.2.2.2.1
  have hP7 : nP D.1 ≤ 7 := hd.1.2.2.2.2.1
  have ha : a ≤ e := hS.1.2.2.2.1
  have hD := hS.2.2.2.2.2.2
  obtain ⟨h1, h2, h3, ⟨lt, ta, t1, t2, t3⟩, -⟩ := hD.parts
  have hlt : (plT D.1).length = nT D.1 := rfl
  have hnxe := nx_le (t := t) ha
  show xw_X2_laid_132 (nI pl) 1 ν k n _ E
  unfold xw_X2_laid_132
  refine ⟨fun z => absurd z (by decide), fun _ => ⟨fun _ => ⟨b, hS.2.2.1, h2, lt, t1, t2.1, xl_size t2 ?_⟩, fun z => absurd rfl z⟩⟩
  rw [t3.1, hlt, i_5, nI_eq (by omega) (by omega)]
  refine ⟨fun z => ?_, fun z => ?_⟩
  · -- one more
    have hspec : kTopic pl t e D a = pB (pNew D.1 t e a) (fun w b => .inl ((addT D.1 w, D.2), b)) := by unfold kTopic; rw [if_neg z]
    rw [hspec] at hb1 hb2 hQ hE
    have hkn : 40 ≤ k ∧ 2 * nx t e a + 200 ≤ n := by
      cases hs : pNew D.1 t e a with
      | inl cb =>
        obtain ⟨w, p⟩ := cb
        rw [hs] at hb1
        have := hb1 _ _ rfl
        have := nx_new ha hs
        omega
      | inr q =>
        rw [hs] at hb2
        have := hb2 _ rfl
        omega
    unfold xw_X2_laid_215
    refine xl_most (y := 0) (by decide) (fun _ => ?_) (fun ν' q => by cases q)
    refine ⟨b, hS.2.2.1, h2, k - 1, n - 1, by omega, by omega, fun q hq ν3 e3 => ?_⟩
    have f3 : ν3.1 = ν.1 := by rw [e3]
    have k3 : rk ν3.2 q = 8 := by rw [e3]; show rk (tN ν.2 q 8 0) q = 8; rw [rk_tN, if_pos rfl]
    have c3 : Chg (fun y => y = q) ν.2 ν3.2 := by rw [e3]; exact Chg.tN _ _ _ hq
    clear e3
    have hq0 : rk ν.2 q = 0 := hq
    have o3 : Old ν.2 ν3.2 := (Old.refl _).chg c3 (fun y hy => by rw [show y = q from hy]; exact hq0)
    have S3 : SD ν0 ν3 t e a b D m := hS.mv (by rw [f3]; exact XTt.refl _) o3 (by rw [f3]; exact hS.1)
    refine ⟨3, 2 * nx t e a + 4, k - 4, n - 1 - (2 * nx t e a + 4), by omega, by omega, ?_⟩
    refine xl_fresh S3.1 S3.ws S3.2.2.1 S3.2.2.2.2.2.2 hT5 hP7 (by omega) (by omega) (fun ν4 r w p hp hlp f4 o4 T4 s4 => ?_) (fun ν4 q' hp f4 o4 d4 => ?_)
    · have S4 := S3.mv f4 o4 T4
      have k4 : rk ν4.2 q = 8 := by rw [(o4 q (by rw [k3]; decide)).1]; exact k3
      unfold xw_X7_init
      refine ⟨Or.inl k4, ?_⟩
      intro ν5 e5
      have f5 : ν5.1 = ν4.1 := by rw [e5]
      have c5 : Chg (fun y => y = q) ν4.2 ν5.2 := by rw [e5]; exact Chg.tO _ _ _ rfl
      have k5 : rk ν5.2 q = 8 := by rw [e5]; exact k4
      have r5 : rO ν5.2 q 0 = some r := by rw [e5]; show rO (tO ν4.2 q 0 (some r)) q 0 = _; rw [rO_tO, if_pos ⟨rfl, rfl⟩]
      clear e5
      have s5 : SRep ν5.2 r w := s4.kp c5 (fun x hx => rcN (c := 8) (by rw [show x = q from hx]; exact k4) (by decide) (by decide))
      have o5 : Old ν.2 ν5.2 := (o3.trans o4).chg c5 (fun y hy => by rw [show y = q from hy]; exact hq0)
      have S5 : SD ν0 ν5 t e p b D m := hS.mv (by rw [f5]; rw [← f3]; exact f4) o5 (by rw [f5]; exact T4)
      obtain ⟨la, as, c, y1, y2, y3, y4, y5⟩ := hD.addT o5 hq0 k5 r5 s5
      have hla : la = lt := by
        rw [(o5 b (by rw [h1]; decide)).2.2.2.2] at y1
        rw [t1] at y1
        cases y1; rfl
      have hg := gr_le (c := c) (m := as.length) y2.2.2.2.2.2.1
      have hal : as.length = nT D.1 := y3
      refine ⟨lt, t1, by rw [← hla]; exact y2.rep.1, 1, 4 * (grw c as.length - c), 0, 0, by omega, by omega, ?_⟩
      rw [← hla]
      refine xl_addP y2 (by rw [rcO k5 (by decide)]; decide) (by omega) (by omega) (by omega) (fun ν6 e6 L6 c6 z6 => ?_)
      intro _
      have l1 := (lk_spec (t := t) ha).1
      refine hQ ν6 _ p p (by rw [hp]; rfl) (S5.put e6 c6 (fun x hx => y4 x hx) (y5 _ L6 c6 z6)) (by omega) (Nat.le_refl _) rfl
    · refine hE ν4 q' (Or.inl (by rw [hp]; rfl)) (S3.2.2.2.2.1.trans f4.s) (S3.2.2.2.2.2.1.trans o4) d4
  · unfold xw_X2_laid_215
    refine xl_most (y := 1) (by decide) (fun q => by cases q) (fun ν' _ f g d => ?_)
    have hspec : kTopic pl t e D a = .inr (5, pl) := by unfold kTopic; rw [if_pos z]
    exact hE ν' _ (Or.inl hspec) (hS.2.2.2.2.1.trans f.s) (hS.2.2.2.2.2.1.trans (Old.eq g)) d
def kCrowd (t : Nat → Nat) (e : Nat) (D : Dr) (a : Nat) : PR Dr := pB (pNum 0 100 t e a) (fun v b2 => .inl ((setW D.1 v.1, D.2), b2))
theorem xl_kCrowd {ν0 : XN} {t : Nat → Nat} {e b m : Nat} {x2 : Int32} {AT FC : XN → Nat → Nat → (Nat → XN → Prop) → (XN → Prop) → Prop} : StK ν0 t e b m (kCrowd t e) (xw_X2_more_109 AT FC x2 3) := by
  intro ν a k n D Q E hS hd hb1 hb2 hQ hE
  have hD := hS.2.2.2.2.2.2
  unfold xw_X2_more_109
  refine ⟨fun z => absurd z (by decide), fun _ => ⟨fun z => absurd z (by decide), fun _ => ⟨fun z => absurd z (by decide), fun _ => ⟨fun _ => ⟨b, hS.2.2.1, ?_⟩, fun z => absurd rfl z⟩⟩⟩⟩
  rw [i_0, i_100]
  refine xl_number hS.1 (by decide) (by decide) (fun ν2 v p2 hp2 hv hlt2 f2 g2 T2 _ => ?_) (fun ν2 q hp2 f2 g2 d2 => ?_)
  · have S2 := hS.mv f2 (Old.eq g2) T2
    refine ⟨S2.2.2.2.2.2.2.parts.1, ?_⟩
    intro ν3 e3
    have l1 := (lk_spec (t := t) hS.1.2.2.2.1).1
    refine hQ ν3 (setW D.1 v, D.2) p2 p2 (by unfold kCrowd; rw [hp2]; rfl) ?_ (by omega) (Nat.le_refl _) rfl
    exact S2.put (S := fun x => x = b) (by rw [e3]) (by rw [e3]; exact Chg.tI _ _ _ rfl) (fun x hx => by rw [show x = b from hx]; exact S2.2.2.2.2.2.2.z) (by rw [e3]; exact S2.2.2.2.2.2.2.crowd v)
  · refine hE ν2 q (Or.inl ?_) (hS.2.2.2.2.1.trans f2.s) (hS.2.2.2.2.2.1.trans (Old.eq g2)) d2
    unfold kCrowd
    rw [hp2]; rfl
