/-! THE SYSTEM: rules told -/
theorem SD.cx {ν0 ν : XN} {t : Nat → Nat} {e a b m : Nat} {D : Dr} (h : SD ν0 ν t e a b D m) (v : Int32) : SD ν0 (sI ν.1 1 5 v, ν.2) t e a b D m := by
  obtain ⟨h1, h2, h3, h4, h5, h6, h7⟩ := h
  refine ⟨⟨?_, ?_, h1.2.2.1, h1.2.2.2.1, h1.2.2.2.2⟩, ?_, h3, h4, h5.trans (XSs.cx _ _), h6, h7⟩
  · show fI (sI ν.1 1 5 v) 1 1 = _; rw [fI_sI, if_neg (by omega)]; exact h1.1
  · show fI (sI ν.1 1 5 v) 1 2 = _; rw [fI_sI, if_neg (by omega)]; exact h1.2.1
  · show fI (sI ν.1 1 5 v) 1 4 = _; rw [fI_sI, if_neg (by omega)]; exact h2
theorem SD.rd {ν0 ν : XN} {t : Nat → Nat} {e a b m cx b0 : Nat} {D : Dr} (h : SD ν0 ν t e a b D m) (hb : fR ν.1 901 5 = .ref b0) : Rd (sI ν.1 1 5 (nI cx), ν.2) t e a 6 cx b0 :=
  ⟨(h.cx _).1, ⟨(h.cx _).2.1, by decide⟩, by show fI (sI ν.1 1 5 (nI cx)) 1 5 = _; rw [fI_sI, if_pos ⟨rfl, rfl⟩], (h.cx _).ws, hb⟩
theorem xDr.tr {M : Nat → Prop} {ρ : RS} {b n i : Nat} {D : Dr} (h : xDr M ρ b D n) (hi : i < 3) : ((cdO D.1 i).isSome = true ∧ ∃ a, rO ρ b (8 + i) = some a) ∨ (¬ (cdO D.1 i).isSome = true ∧ rO ρ b (8 + i) = none) := by
  obtain ⟨ha, lt, lp, ll, ct, cp, cl, ta, pa, aa, N, hM, h1, h2, h3, h4, r1, r2, r3⟩ := h
  rcases (show i = 0 ∨ i = 1 ∨ i = 2 by omega) with rfl | rfl | rfl
  · rcases r1 with ⟨q1, q2⟩ | ⟨cs, a, q1, q2, -⟩
    · exact Or.inr ⟨by show ¬ (plF D.1).isSome = true; rw [q1]; decide, q2⟩
    · exact Or.inl ⟨by show (plF D.1).isSome = true; rw [q1]; rfl, a, q2⟩
  · rcases r2 with ⟨q1, q2⟩ | ⟨cs, a, q1, q2, -⟩
    · exact Or.inr ⟨by show ¬ (plG D.1).isSome = true; rw [q1]; decide, q2⟩
    · exact Or.inl ⟨by show (plG D.1).isSome = true; rw [q1]; rfl, a, q2⟩
  · rcases r3 with ⟨q1, q2⟩ | ⟨cs, a, q1, q2, -⟩
    · exact Or.inr ⟨by show ¬ (plH D.1).isSome = true; rw [q1]; decide, q2⟩
    · exact Or.inl ⟨by show (plH D.1).isSome = true; rw [q1]; rfl, a, q2⟩
def kCode (i pl : Nat) (t : Nat → Nat) (e : Nat) (D : Dr) (a : Nat) : PR Dr := if (cdO D.1 i).isSome = true then .inr (5, pl) else pB (pCds i t e a) (fun cs b => .inl ((setC D.1 i cs, D.2), b))
theorem pCode_k {t : Nat → Nat} {e a i pl : Nat} {D : Dr} : pCode D i pl t e a = pB (kCode i pl t e D a) (fun D' b => pFin D' t e b) := by
  unfold pCode kCode
  split
  · rfl
  · rw [pB_assoc]
    rfl
theorem alK_01 : alK 0 = al0 ∧ alK 1 = al1 := ⟨rfl, rfl⟩
/-- a sum that is told once -/
theorem xl_once {ν0 ν : XN} {t : Nat → Nat} {e a b m i pl cx k n : Nat} {D : Dr} {Q : Nat → XN → Prop} {E : XN → Prop} (hi : i = 0 ∧ cx = 63 ∨ i = 1 ∧ cx = 31) (hS : SD ν0 ν t e a b D m) (hb1 : ∀ D' p, kCode i pl t e D a = .inl (D', p) → 80 * (p - a) + 40 ≤ k ∧ 600 * (p - a) + 4 * nx t e p + 400 ≤ n) (hb2 : ∀ q, kCode i pl t e D a = .inr q → 80 * (e - a) + 160 ≤ k ∧ 600 * (e - a) + 1800 ≤ n)
    (hQ : ∀ ν' x p, (∀ ν'', ν'' = (ν'.1, tO ν'.2 b (8 + i) (some x)) → ∃ D', kCode i pl t e D a = .inl (D', p) ∧ SD ν0 ν'' t e p b D' m) → rk ν'.2 b = 2 → a ≤ p → Q x ν')
    (hE : ∀ ν' q, kCode i pl t e D a = .inr q → XSs ν0.1 ν'.1 → Old ν0.2 ν'.2 → Bd2 ν'.1 q → E ν') : xw_X2_once (ATr 6) (rO ν.2 b (8 + i)) (nI pl) (nI cx) ν k n Q E := by
  have hD := hS.2.2.2.2.2.2
  have ha : a ≤ e := hS.1.2.2.2.1
  unfold xw_X2_once
  rcases hD.tr (i := i) (by omega) with ⟨q1, a1, q2⟩ | ⟨q1, q2⟩
  · rw [q2]
    refine ⟨(fun z => by cases z), fun _ _ => ?_⟩
    unfold xw_X2_once_10
    refine xl_most (y := 1) (by decide) (fun q => by cases q) (fun ν' _ f g d => ?_)
    have hspec : kCode i pl t e D a = .inr (5, pl) := by unfold kCode; rw [if_pos q1]
    exact hE ν' _ hspec (hS.2.2.2.2.1.trans f.s) (hS.2.2.2.2.2.1.trans (Old.eq g)) d
  · rw [q2]
    refine ⟨fun _ => ?_, (fun _ z => by cases z)⟩
    unfold xw_X2_once_10
    refine xl_most (y := 0) (by decide) (fun _ => ?_) (fun ν' q => by cases q)
    intro ν4 e4
    obtain ⟨al, hal, hcx, hal2⟩ : ∃ al, pCds i t e a = pSum (pAtom al t e 6) t e a ∧ cxOK al cx ∧ al = (if i = 0 then al1 else al0) := by
      rcases hi with ⟨rfl, rfl⟩ | ⟨rfl, rfl⟩
      · exact ⟨al1, rfl, cx_1, rfl⟩
      · exact ⟨al0, rfl, cx_0, rfl⟩
    have hspec : kCode i pl t e D a = pB (pSum (pAtom al t e 6) t e a) (fun cs b => .inl ((setC D.1 i cs, D.2), b)) := by unfold kCode; rw [if_neg q1, hal]
    rw [hspec] at hb1 hb2 hQ hE
    obtain ⟨b0, hb0⟩ := hS.ws.2.2.1
    subst e4
    have R4 : Rd (sI ν.1 1 5 (nI cx), ν.2) t e a 6 cx b0 := hS.rd hb0
    have S4 := hS.cx (nI cx)
    refine ⟨k, n, 0, 0, by omega, by omega, ?_⟩
    refine xl_sumAll hcx (by decide) _ _ _ _ _ _ R4 (fun cs p hh => ?_) (fun q hh => ?_) (fun ν5 x N cs p hh f5 o5 T5 V5 z5 => ?_) (fun ν5 q hh f5 o5 d5 => ?_)
    · rw [hh] at hb1
      have := hb1 _ _ rfl
      omega
    · rw [hh] at hb2
      have := hb2 _ rfl
      omega
    · have S5 := S4.mv f5 o5 T5
      have hadv := (adv_sum (t := t) (adv_atom al t e 6)) a cs p ha hh
      refine hQ ν5 x p (fun ν6 e6 => ⟨(setC D.1 i cs, D.2), by rw [hh]; rfl, ?_⟩) S5.2.2.2.2.2.2.parts.1 (by omega)
      refine S5.put (S := fun y => y = b) (by rw [e6]) (by rw [e6]; exact Chg.tO _ _ _ rfl) (fun y hy => by rw [show y = b from hy]; exact S5.2.2.2.2.2.2.z) ?_
      rw [e6]
      refine hD.rule (d := 21) (b0 := b0) o5 (by omega) (by decide) ?_ z5
      rw [if_neg (by omega), ← hal2]; exact V5
    · exact hE ν5 q (by rw [hh]; rfl) (S4.2.2.2.2.1.trans f5.s) (S4.2.2.2.2.2.1.trans o5) d5
theorem xl_kCode01 {ν0 : XN} {t : Nat → Nat} {e b m pl i : Nat} {FC : XN → Nat → Nat → (Nat → XN → Prop) → (XN → Prop) → Prop} (hi : i < 2) : StK ν0 t e b m (kCode i pl t e) (xw_X2_more_109 (ATr 6) FC (nI pl) (nI i)) := by
  intro ν a k n D Q E hS hd hb1 hb2 hQ hE
  have hp := hS.2.2.2.2.2.2.parts
  unfold xw_X2_more_109
  rcases (show i = 0 ∨ i = 1 by omega) with rfl | rfl
  · refine ⟨fun _ => ⟨b, hS.2.2.1, b, hS.2.2.1, hp.2.1, k, n, 0, 0, by omega, by omega, ?_⟩, fun z => absurd rfl z⟩
    rw [i_63]
    refine xl_once (i := 0) (Or.inl ⟨rfl, rfl⟩) hS hb1 hb2 (fun ν' x p hh hk hap => ⟨hk, fun ν'' e'' => ?_⟩) (fun ν' q hh f o d => hE ν' q (Or.inl hh) f o d)
    obtain ⟨D', y1, y2⟩ := hh ν'' e''
    exact hQ ν'' D' p p y1 y2 hap (Nat.le_refl _) rfl
  · refine ⟨fun z => absurd z (by decide), fun _ => ⟨fun _ => ⟨b, hS.2.2.1, b, hS.2.2.1, hp.2.1, k, n, 0, 0, by omega, by omega, ?_⟩, fun z => absurd rfl z⟩⟩
    rw [i_31]
    refine xl_once (i := 1) (Or.inr ⟨rfl, rfl⟩) hS hb1 hb2 (fun ν' x p hh hk hap => ⟨hk, fun ν'' e'' => ?_⟩) (fun ν' q hh f o d => hE ν' q (Or.inl hh) f o d)
    obtain ⟨D', y1, y2⟩ := hh ν'' e''
    exact hQ ν'' D' p p y1 y2 hap (Nat.le_refl _) rfl
theorem xl_kCode2 {ν0 : XN} {t : Nat → Nat} {e b m pl : Nat} : StK ν0 t e b m (kCode 2 pl t e) (xw_X2_more_109 (ATr 6) (FCr 6) (nI pl) (nI 2)) := by
  intro ν a k n D Q E hS hd hb1 hb2 hQ hE
  have hD := hS.2.2.2.2.2.2
  have hp := hD.parts
  have ha : a ≤ e := hS.1.2.2.2.1
  unfold xw_X2_more_109
  refine ⟨fun z => absurd z (by decide), fun _ => ⟨fun z => absurd z (by decide), fun _ => ⟨fun _ => ⟨b, hS.2.2.1, hp.2.1, fun q2 => ?_, fun b1 q2 => ?_⟩, fun z => absurd rfl z⟩⟩⟩
  · have q1 : ¬ (cdO D.1 2).isSome = true := by
      rcases hD.tr (i := 2) (by decide) with ⟨q1, a1, q3⟩ | ⟨q1, -⟩
      · rw [q3] at q2; cases q2
      · exact q1
    have hspec : kCode 2 pl t e D a = pB (pTest (pFact al0 t e 6) t e a) (fun cs b => .inl ((setC D.1 2 cs, D.2), b)) := by unfold kCode; rw [if_neg q1]; rfl
    rw [hspec] at hb1 hb2 hQ hE
    unfold xw_X2_more_204
    refine xl_most (y := 0) (by decide) (fun _ => ?_) (fun ν' q => by cases q)
    intro ν4 e4
    obtain ⟨b0, hb0⟩ := hS.ws.2.2.1
    subst e4
    have R4 : Rd (sI ν.1 1 5 (nI 31), ν.2) t e a 6 31 b0 := hS.rd hb0
    have S4 := hS.cx (nI 31)
    refine ⟨b, hS.2.2.1, k, n, 0, 0, by omega, by omega, ?_⟩
    refine xl_testAll cx_0 (by decide) _ _ _ _ _ _ R4 (fun cs p hh => ?_) (fun q hh => ?_) (fun ν5 x N cs p p' hh f5 o5 T5 u1 u2 u3 V5 z5 => ?_) (fun ν5 q hh f5 o5 d5 => ?_)
    · rw [hh] at hb1
      have h1 : 80 * (p - a) + 40 ≤ k ∧ 600 * (p - a) + 4 * nx t e p + 400 ≤ n := hb1 _ _ rfl
      omega
    · rw [hh] at hb2
      have := hb2 _ rfl
      omega
    · have S5 := S4.mv f5 o5 T5
      refine ⟨S5.2.2.2.2.2.2.parts.1, ?_⟩
      intro ν6 e6
      refine hQ ν6 (setC D.1 2 cs, D.2) p p' (by rw [hh]; rfl) ?_ u1 u2 u3
      refine S5.put (S := fun y => y = b) (by rw [e6]) (by rw [e6]; exact Chg.tO _ _ _ rfl) (fun y hy => by rw [show y = b from hy]; exact S5.2.2.2.2.2.2.z) ?_
      rw [e6]
      refine hD.rule (i := 2) (d := 24) (b0 := b0) o5 (by decide) (by decide) ?_ z5
      rw [if_pos rfl]; exact V5
    · refine hE ν5 q ?_ (S4.2.2.2.2.1.trans f5.s) (S4.2.2.2.2.2.1.trans o5) d5
      rcases hh with hh | ⟨cs, p, hh, y1, y2, y3⟩
      · exact Or.inl (by rw [hh]; rfl)
      · exact Or.inr ⟨_, p, by rw [hh]; rfl, y1, y2, y3⟩
  · have q1 : (cdO D.1 2).isSome = true := by
      rcases hD.tr (i := 2) (by decide) with ⟨q1, -⟩ | ⟨-, q3⟩
      · exact q1
      · rw [q3] at q2; cases q2
    unfold xw_X2_more_204
    refine xl_most (y := 1) (by decide) (fun q => by cases q) (fun ν' _ f g d => ?_)
    have hspec : kCode 2 pl t e D a = .inr (5, pl) := by unfold kCode; rw [if_pos q1]
    exact hE ν' _ (Or.inl hspec) (hS.2.2.2.2.1.trans f.s) (hS.2.2.2.2.2.1.trans (Old.eq g)) d
