/-! THE SYSTEM holds the world -/
def DP : Nat := 100
def xNl (ρ : RS) (la c : Nat) (ws : List (List Nat)) : Prop := ∃ as, LRep ρ la as ∧ as.length = ws.length ∧ ∀ (k : Nat) w, ws[k]? = some w → ∃ a sa, as[k]? = some a ∧ rc ρ a = c ∧ rO ρ a 0 = some sa ∧ SRep ρ sa w
theorem xNl.old {ρ ρ' : RS} {la c : Nat} {ws : List (List Nat)} (o : Old ρ ρ') (hc : c ≠ 0) (h : xNl ρ la c ws) : xNl ρ' la c ws := by
  obtain ⟨as, h1, h2, h3⟩ := h
  refine ⟨as, h1.old o, h2, fun k w hk => ?_⟩
  obtain ⟨a, sa, a1, a2, a3, a4⟩ := h3 k w hk
  obtain ⟨b1, b2, b3, b4, b5⟩ := o.c a2 hc
  exact ⟨a, sa, a1, b1, by rw [b5]; exact a3, a4.old o⟩
def xFv (ρ : RS) (b k : Nat) (o : Option (List Nat)) (al : Nat → Bool) : Prop := (o = none ∧ rO ρ b k = none) ∨ ∃ cs a, o = some cs ∧ rO ρ b k = some a ∧ (VT al 0 ρ DP).1 a cs
def xFt (ρ : RS) (b k : Nat) (o : Option (List Nat)) (al : Nat → Bool) : Prop := (o = none ∧ rO ρ b k = none) ∨ ∃ cs a, o = some cs ∧ rO ρ b k = some a ∧ (VT al 0 ρ DP).2 a cs
/-- a plain as it stands -/
def xPs (ρ : RS) (b : Nat) (P : Pl) : Prop := rc ρ b = 2 ∧ (rI ρ b 1 = nI (plC P) ∧ rI ρ b 2 = nI (plR P) ∧ rI ρ b 3 = nI (plW P)) ∧ (∃ lt, rO ρ b 5 = some lt ∧ xNl ρ lt 8 (plT P)) ∧ (∃ lp, rO ρ b 6 = some lp ∧ xNl ρ lp 9 (plN P)) ∧ xAk ρ b P ∧ xFv ρ b 8 (plF P) al1 ∧ xFv ρ b 9 (plG P) al0 ∧ xFt ρ b 10 (plH P) al0
theorem xPs.old {ρ ρ' : RS} {b : Nat} {P : Pl} (o : Old ρ ρ') (h : xPs ρ b P) : xPs ρ' b P := by
  obtain ⟨h1, h2, ⟨lt, h3, h4⟩, ⟨lp, h5, h6⟩, ⟨l, as, k1, k2, k3, k4⟩, h8, h9, h10⟩ := h
  obtain ⟨b1, b2, b3, b4, b5⟩ := o.c h1 (by decide)
  refine ⟨b1, by rw [b3, b3, b3]; exact h2, ⟨lt, by rw [b5]; exact h3, h4.old o (by decide)⟩, ⟨lp, by rw [b5]; exact h5, h6.old o (by decide)⟩, ⟨l, as, by rw [b5]; exact k1, k2.old o, k3, fun k q hk => ?_⟩, ?_, ?_, ?_⟩
  · obtain ⟨a, a1, a2, a3, a4⟩ := k4 k q hk
    obtain ⟨c1, c2, c3, c4, c5⟩ := o.c a2 (by decide)
    exact ⟨a, a1, c1, by rw [c3]; exact a3, by rw [c3]; exact a4⟩
  · unfold xFv; rw [b5]
    rcases h8 with h | ⟨cs, a, x1, x2, x3⟩
    · exact Or.inl h
    · exact Or.inr ⟨cs, a, x1, x2, (VT.old o _ _ _).1 x3⟩
  · unfold xFv; rw [b5]
    rcases h9 with h | ⟨cs, a, x1, x2, x3⟩
    · exact Or.inl h
    · exact Or.inr ⟨cs, a, x1, x2, (VT.old o _ _ _).1 x3⟩
  · unfold xFt; rw [b5]
    rcases h10 with h | ⟨cs, a, x1, x2, x3⟩
    · exact Or.inl h
    · exact Or.inr ⟨cs, a, x1, x2, (VT.old o _ _ _).2 x3⟩
theorem xPs.pb {ν : XN} {b : Nat} {P : Pl} (h : xPs ν.2 b P) (hr : fR ν.1 0 0 = .ref b) (hb : plC P ≤ 7 ∧ plR P ≤ 7 ∧ nT P ≤ 5 ∧ nP P ≤ 7) : xPb ν b P := by
  obtain ⟨h1, h2, ⟨lt, h3, as, h4, h4', -⟩, ⟨lp, h5, as2, h6, h6', -⟩, -⟩ := h
  exact ⟨hr, h1, h2, ⟨lt, as, h3, h4, h4'⟩, ⟨lp, as2, h5, h6, h6'⟩, hb⟩
theorem fV_ov {ρ : RS} {b k d : Nat} {o : Option (List Nat)} {al : Nat → Bool} (h9 : al 9 = false) (h10 : al 10 = false) (hd : DP ≤ d) (h : xFv ρ b k o al) : xOV (VTA d).1 ρ b k o al := by
  rcases h with h | ⟨cs, a, x1, x2, x3⟩
  · exact Or.inl h
  · refine Or.inr ⟨cs, a, x1, x2, fun ν pt Q e hm hQ => ?_⟩
    have key := (ev_law (al := al) (m := 3) (b0 := 0) (D := d - DP) (pt := pt) (lk := lk0) (ρ := ρ) (inv := fun ν' => ν' = ν) (fun ν' e' => by subst e'; exact ⟨e, (fun z => by rw [h9, h10] at z; rcases z with z | z <;> cases z), fun i hi ha => (hm i hi ha).1⟩) (fun i hi ha => (hm i hi ha).2) ⟨rfl, x12.2.1, x12.2.2⟩ (fun d' _ k v ν' Q' hk ha => by
      rcases (show k = 0 ∨ k = 1 by omega) with rfl | rfl
      · rw [h9] at ha; cases ha
      · rw [h10] at ha; cases ha) (fun _ _ => ⟨by show (-1000000000000 : Int) ≤ 0; decide, by show (0 : Int) ≤ 1000000000000; decide⟩) DP a cs).1 x3
    have := key.2.2 ν Q rfl (fun ν' e' => by subst e'; exact hQ)
    rw [Nat.sub_add_cancel hd] at this
    exact this
theorem fT_ot {ρ : RS} {b k d : Nat} {o : Option (List Nat)} {al : Nat → Bool} (h9 : al 9 = false) (h10 : al 10 = false) (hd : DP ≤ d) (h : xFt ρ b k o al) : xOT (VTA d).2 ρ b k o al := by
  rcases h with h | ⟨cs, a, x1, x2, x3⟩
  · exact Or.inl h
  · refine Or.inr ⟨cs, a, x1, x2, fun ν pt Q e hm hQ => ?_⟩
    have key := (ev_law (al := al) (m := 3) (b0 := 0) (D := d - DP) (pt := pt) (lk := lk0) (ρ := ρ) (inv := fun ν' => ν' = ν) (fun ν' e' => by subst e'; exact ⟨e, (fun z => by rw [h9, h10] at z; rcases z with z | z <;> cases z), fun i hi ha => (hm i hi ha).1⟩) (fun i hi ha => (hm i hi ha).2) ⟨rfl, x12.2.1, x12.2.2⟩ (fun d' _ k v ν' Q' hk ha => by
      rcases (show k = 0 ∨ k = 1 by omega) with rfl | rfl
      · rw [h9] at ha; cases ha
      · rw [h10] at ha; cases ha) (fun _ _ => ⟨by show (-1000000000000 : Int) ≤ 0; decide, by show (0 : Int) ≤ 1000000000000; decide⟩) DP a cs).2 x3
    have := key.2.2 ν Q rfl (fun ν' e' => by subst e'; exact hQ)
    rw [Nat.sub_add_cancel hd] at this
    exact this
theorem xPs.cx {ν : XN} {b d : Nat} {P : Pl} (hd : DP ≤ d) (h : xPs ν.2 b P) (hr : fR ν.1 0 0 = .ref b) (hP : plOK P) : xCx (VTA d).1 (VTA d).2 ν b P :=
  ⟨h.pb hr ⟨hP.1.2, hP.2.1.2, hP.2.2.2.1, hP.2.2.2.2.1⟩, hP, ⟨fV_ov rfl rfl hd h.2.2.2.2.2.1, fV_ov rfl rfl hd h.2.2.2.2.2.2.1, fT_ot rfl rfl hd h.2.2.2.2.2.2.2⟩, h.2.2.2.2.1⟩
/-! the words of the program -/
def cW (k : Nat) : List Nat := (([(0, [112, 108, 97, 105, 110]), (1, [98, 121]), (2, [97, 116]), (3, [116, 105, 114, 101, 100]), (4, [111, 102]), (5, [104, 105, 103, 104]), (6, [116, 111, 112, 105, 99]), (7, [112, 101, 114, 115, 111, 110]), (8, [107, 110, 111, 119, 115]), (9, [97, 115, 107, 115]), (10, [108, 105, 102, 116, 115]), (11, [116, 105, 114, 101, 115]), (12, [104, 111, 108, 100, 115]), (13, [99, 114, 111, 119, 100]), (14, [109, 105, 110]), (15, [109, 97, 120]), (16, [111, 114]), (17, [97, 110, 100]), (18, [110, 111, 116]), (19, [97, 108, 108])] : List (Nat × List Nat)).lookup k).getD []
/-- rows of rows, as they were made -/
def xFx (σ : FS) : Prop := (∀ i, i < 4 → fP σ 2 i = 12 + i) ∧ (∀ q, q < 128 → fP σ 5 q = 1000 + q) ∧ (∀ p, p < 7 → fP σ 9 p = 2000 + p) ∧ ∀ p d, p < 7 → d < 31 → fP σ (2000 + p) d = 3000 + 31 * p + d
def cT (k : Nat) : List (List Nat) := if k = 1 then [str 91, str 92, str 93, str 94, str 95, str 96, str 97, str 98, str 99] else if k = 2 then [str 100, str 101] else if k = 3 then [str 79, str 80, str 81, str 82, str 83, str 84] else (List.range 27).map (fun i => str (11 + i))
/-- an array of words -/
def ARep (ρ : RS) (a : Nat) (ws : List (List Nat)) : Prop := rc ρ a = 110 ∧ rn ρ a = ws.length ∧ ∀ (i : Nat) w, ws[i]? = some w → ∃ sa, rO ρ a i = some sa ∧ SRep ρ sa w
theorem ARep.old {ρ ρ' : RS} {a : Nat} {ws : List (List Nat)} (o : Old ρ ρ') (h : ARep ρ a ws) : ARep ρ' a ws := by
  obtain ⟨h1, h2, h3⟩ := h
  obtain ⟨b1, b2, b3, b4, b5⟩ := o.c h1 (by decide)
  refine ⟨b1, by rw [b2]; exact h2, fun i w hi => ?_⟩
  obtain ⟨sa, s1, s2⟩ := h3 i w hi
  exact ⟨sa, by rw [b5]; exact s1, s2.old o⟩
def xWs (ν : XN) : Prop := (∀ k, k < 20 → ∃ a, fR ν.1 900 k = .ref a ∧ SRep ν.2 a (cW k)) ∧ (∀ k, k < 4 → ∃ a, fR ν.1 901 k = .ref a ∧ ARep ν.2 a (cT k)) ∧ (∃ b0, fR ν.1 901 5 = .ref b0) ∧ xFx ν.1
/-- what lies in the states and in raw objects -/
def xKe (σ : FS) : Prop := (∀ i, i < 20 → 16 ≤ fP σ 10 i ∧ fP σ 10 i < 36) ∧ ∀ i i', i < 20 → i' < 20 → fP σ 10 i = fP σ 10 i' → i = i'
def xCo (ν : XN) (P : Pl) (s : St) (u : List St) : Prop := (∃ b, fR ν.1 0 0 = .ref b ∧ xPs ν.2 b P) ∧ (xSt ν.1 10 P s ∧ fI ν.1 10 2 = nI 0) ∧ (∀ o, 10 ≤ o → o < 36 → xRk ν.1 o) ∧ xKe ν.1 ∧ (∀ (i : Nat) s', u[i]? = some s' → xSt ν.1 (fP ν.1 10 (u.length - 1 - i)) P s') ∧ xWs ν
/-- a byte as it lies in the tape -/
def sb (n : Nat) : Int32 := vp_nar .byte (Int8.toInt32 (Int32.toInt8 (nI n)))
def tB (v : Int32) (n : Nat) : Prop := v = sb n ∧ n < 256
def xTp (σ : FS) (Z : Wd) : Prop := fI σ 0 2 = nI (wTn Z) ∧ ∀ i, i < 1600 → tB (fA σ 0 i) (wTp Z i)
def xRo (σ : FS) (Z : Wd) : Prop := fI σ 0 18 = nI (wR Z).length ∧ ∀ (k : Nat) q, (wR Z)[k]? = some q → fA σ 6 k = nI q.1 ∧ fA σ 7 k = nI q.2.1 ∧ fA σ 8 k = nI q.2.2
def xOu (σ : FS) (Z : Wd) : Prop := fI σ 0 25 = nI (wO Z).length ∧ ∀ (i : Nat) b, (wO Z)[i]? = some b → fA σ 11 i &&& nI 255 = nI b
def xSm (σ : FS) (Z : Wd) : Prop := xTp σ Z ∧ (fI σ 0 3 = (wF Z).1 ∧ fI σ 0 4 = (wF Z).2) ∧ (∀ i, i < 6 → fA σ 1 i = wRf Z i) ∧ xRo σ Z ∧ fI σ 0 21 = nI (wU Z).length ∧ fL σ 0 22 = wD Z ∧ xOu σ Z
def xAll (ν : XN) (Z : Wd) : Prop := woOK Z ∧ xCo ν (wP Z) (wS Z) (wU Z) ∧ xSm ν.1 Z
/-! frames -/
theorem xSt.fr {σ σ' : FS} {o o' : Nat} {P : Pl} {s : St} (h : xSt σ o' P s) (g : XFr o σ σ') (ho : o' ≠ o) : xSt σ' o' P s := by
  obtain ⟨s1, s2, s3, s4, s5, s6, s7⟩ := h
  have dk := @kdiv o'
  have eP : fP σ' (rK o') = fP σ (rK o') := g.2.2.2.1 _ (by unfold rK; omega)
  have eA : ∀ a, a / 100 = o' + 90 → fA σ' a = fA σ a := fun a ha => g.2.1 a (by omega)
  refine ⟨s1, by rw [g.1 _ _ ho]; exact s2, by rw [g.1 _ _ ho]; exact s3, fun c hc => by rw [eA _ dk.1]; exact s4 c hc, fun p hp => by rw [eA _ dk.2.1, eA _ dk.2.2.1, eA _ dk.2.2.2]; exact s5 p hp, ?_, fun k r hk => ?_⟩
  · unfold xRk; rw [eP]; exact s6
  · have hk4 : k < 40 := Nat.lt_of_lt_of_le (List.getElem?_eq_some_iff.mp hk).1 s1.2.2.2
    rw [eP, eA _ (s6.ne hk4).2.2.2.2]
    exact s7 k r hk
theorem xRk.fr {σ σ' : FS} {o o' : Nat} (h : xRk σ o') (g : XFr o σ σ') (ho : o' ≠ o) : xRk σ' o' := by
  have eP : fP σ' (rK o') = fP σ (rK o') := g.2.2.2.1 _ (by unfold rK; omega)
  unfold xRk; rw [eP]; exact h
theorem xFx.e {σ σ' : FS} (h : xFx σ) (e : ∀ a, a < 9000 → a ≠ 10 → fP σ' a = fP σ a) : xFx σ' := by
  refine ⟨fun i hi => by rw [e 2 (by decide) (by decide)]; exact h.1 i hi, fun q hq => by rw [e 5 (by decide) (by decide)]; exact h.2.1 q hq, fun p hp => by rw [e 9 (by decide) (by decide)]; exact h.2.2.1 p hp, fun p d hp hd => by rw [e _ (by omega) (by omega)]; exact h.2.2.2 p d hp hd⟩
theorem xWs.e {ν ν' : XN} (h : xWs ν) (e1 : fR ν'.1 = fR ν.1) (e2 : ν'.2 = ν.2) (e3 : ∀ a, a < 9000 → a ≠ 10 → fP ν'.1 a = fP ν.1 a) : xWs ν' := by
  obtain ⟨h1, h2, h3, h4⟩ := h
  refine ⟨?_, ?_, ?_, h4.e e3⟩
  · rw [e1, e2]; exact h1
  · rw [e1, e2]; exact h2
  · rw [e1]; exact h3
theorem xSm.fr {σ σ' : FS} {o : Nat} {Z : Wd} {s : St} (h : xSm σ Z) (g : XFr o σ σ') (ho : 10 ≤ o) : xSm σ' (putS Z s) := by
  obtain ⟨h1, h2, h3, h4, h5, h6, h7⟩ := h
  have eI : ∀ k, fI σ' 0 k = fI σ 0 k := fun k => g.1 0 k (by omega)
  have eA : ∀ a, a < 100 → fA σ' a = fA σ a := fun a ha => g.2.1 a (by omega)
  refine ⟨⟨by rw [eI]; exact h1.1, by rw [eA 0 (by decide)]; exact h1.2⟩, by rw [eI, eI]; exact h2, by rw [eA 1 (by decide)]; exact h3, ⟨by rw [eI]; exact h4.1, by rw [eA 6 (by decide), eA 7 (by decide), eA 8 (by decide)]; exact h4.2⟩, by rw [eI]; exact h5, by rw [g.2.2.2.2.1]; exact h6, ⟨by rw [eI]; exact h7.1, by rw [eA 11 (by decide)]; exact h7.2⟩⟩
theorem xCo.fr {ν ν' : XN} {o : Nat} {P : Pl} {s s' : St} {u : List St} (h : xCo ν P s u) (g : XFr o ν.1 ν'.1) (e : ν'.2 = ν.2) (ho : 10 ≤ o ∧ o < 16) (hr : xRk ν'.1 o) (hs : xSt ν'.1 10 P s' ∧ fI ν'.1 10 2 = nI 0) (hul : u.length ≤ 20) : xCo ν' P s' u := by
  obtain ⟨⟨b, b1, b2⟩, -, h3, h4, h5, h6⟩ := h
  have eP : fP ν'.1 10 = fP ν.1 10 := g.2.2.2.1 10 (by unfold rK; omega)
  refine ⟨⟨b, by rw [g.2.2.2.2.2]; exact b1, by rw [e]; exact b2⟩, hs, fun o' g1 g2 => ?_, ?_, fun i s2 hi => ?_, h6.e g.2.2.2.2.2 e (fun a ha _ => g.2.2.2.1 a (by unfold rK; omega))⟩
  · by_cases z : o' = o
    · rw [z]; exact hr
    · exact (h3 o' g1 g2).fr g z
  · unfold xKe; rw [eP]; exact h4
  · rw [eP]
    have hil := (List.getElem?_eq_some_iff.mp hi).1
    have := (h4.1 (u.length - 1 - i) (by omega)).1
    exact (h5 i s2 hi).fr g (by omega)
/-- the state tried, and such, change -/
theorem xAll.fr {ν ν' : XN} {o : Nat} {Z : Wd} (h : xAll ν Z) (g : XFr o ν.1 ν'.1) (e : ν'.2 = ν.2) (ho : 11 ≤ o ∧ o < 16) (hr : xRk ν'.1 o) : xAll ν' Z := by
  obtain ⟨h1, h2, h3⟩ := h
  have hs := h2.2.1
  exact ⟨h1, h2.fr g e ⟨by omega, ho.2⟩ hr ⟨hs.1.fr g (by omega), by rw [g.1 10 2 (by omega)]; exact hs.2⟩ h1.2.2.2.2.2.2.2.1, h3.fr (s := wS Z) g (by omega)⟩
/-- the land has changed -/
theorem xAll.now {ν ν' : XN} {Z : Wd} {s : St} (h : xAll ν Z) (g : XGo 10 ν.1 ν'.1) (e : ν'.2 = ν.2) (hs : xSt ν'.1 10 (wP Z) s) (hd : zD s ≤ 999) : xAll ν' (putS Z s) := by
  obtain ⟨h1, h2, h3⟩ := h
  exact ⟨h1.putS hs.1 hd, h2.fr g.1 e ⟨by decide, by decide⟩ hs.2.2.2.2.2.1 ⟨hs, g.2.trans h2.2.1.2⟩ h1.2.2.2.2.2.2.2.1, h3.fr g.1 (by decide)⟩
/-- nothing but these fields of the system itself, and these small arrays -/
def X0 (ks as : List Nat) (σ σ' : FS) : Prop := (∀ o k, (o ≠ 0 ∨ k ∉ ks) → fI σ' o k = fI σ o k) ∧ (∀ a, a ∉ as → fA σ' a = fA σ a) ∧ fP σ' = fP σ ∧ fR σ' = fR σ
theorem X0.refl (ks as : List Nat) (σ : FS) : X0 ks as σ σ := ⟨fun _ _ _ => rfl, fun _ _ => rfl, rfl, rfl⟩
theorem X0.trans {ks as : List Nat} {σ σ' σ'' : FS} (h : X0 ks as σ σ') (g : X0 ks as σ' σ'') : X0 ks as σ σ'' := ⟨fun o k z => (g.1 o k z).trans (h.1 o k z), fun a z => (g.2.1 a z).trans (h.2.1 a z), g.2.2.1.trans h.2.2.1, g.2.2.2.trans h.2.2.2⟩
theorem X0.sI {ks as : List Nat} (σ : FS) {k : Nat} (v : Int32) (hk : k ∈ ks) : X0 ks as σ (sI σ 0 k v) := ⟨fun o k' z => by rw [fI_sI, if_neg (fun q => by rcases z with z | z; exact z q.1; exact z (by rw [q.2]; exact hk))], fun _ _ => rfl, rfl, rfl⟩
theorem X0.sA {ks as : List Nat} (σ : FS) {a : Nat} (k : Nat) (v : Int32) (ha : a ∈ as) : X0 ks as σ (sA σ a k v) := ⟨fun _ _ _ => rfl, fun b hb => by funext i; rw [fA_sA, if_neg (fun q => hb (by rw [q.1]; exact ha))], rfl, rfl⟩
theorem X0.sL {ks as : List Nat} (σ : FS) (k : Nat) (v : Int64) : X0 ks as σ (sL σ 0 k v) := ⟨fun _ _ _ => rfl, fun _ _ => rfl, rfl, rfl⟩
theorem X0.sB {ks as : List Nat} (σ : FS) (a k : Nat) (v : Int64) : X0 ks as σ (sB σ a k v) := ⟨fun _ _ _ => rfl, fun _ _ => rfl, rfl, rfl⟩
theorem X0.st {ks as : List Nat} {σ σ' : FS} (g : X0 ks as σ σ') (ha : ∀ a ∈ as, a < 9000) {o : Nat} {P : Pl} {s : St} (ho : 10 ≤ o) (h : xSt σ o P s) : xSt σ' o P s := by
  obtain ⟨s1, s2, s3, s4, s5, s6, s7⟩ := h
  have eA : ∀ a, 9000 ≤ a → fA σ' a = fA σ a := fun a h9 => g.2.1 a (fun q => by have := ha a q; omega)
  have hh : 9000 ≤ hK o ∧ 9000 ≤ aK o ∧ 9000 ≤ tK' o ∧ 9000 ≤ kK o := by unfold hK aK tK' kK; omega
  refine ⟨s1, by rw [g.1 o 0 (Or.inl (by omega))]; exact s2, by rw [g.1 o 1 (Or.inl (by omega))]; exact s3, fun c hc => by rw [eA _ hh.1]; exact s4 c hc, fun p hp => by rw [eA _ hh.2.1, eA _ hh.2.2.1, eA _ hh.2.2.2]; exact s5 p hp, ?_, fun k r hk => ?_⟩
  · unfold xRk; rw [g.2.2.1]; exact s6
  · have hk4 : k < 40 := Nat.lt_of_lt_of_le (List.getElem?_eq_some_iff.mp hk).1 s1.2.2.2
    have := (s6.ne hk4).2.2.2.2
    rw [g.2.2.1, eA _ (by omega)]
    exact s7 k r hk
theorem X0.co {ks as : List Nat} {ν ν' : XN} (g : X0 ks as ν.1 ν'.1) (e : ν'.2 = ν.2) (ha : ∀ a ∈ as, a < 9000) {P : Pl} {s : St} {u : List St} (hu : u.length ≤ 20) (h : xCo ν P s u) : xCo ν' P s u := by
  obtain ⟨⟨b, b1, b2⟩, h2, h3, h4, h5, h6⟩ := h
  refine ⟨⟨b, by rw [g.2.2.2]; exact b1, by rw [e]; exact b2⟩, ⟨g.st ha (by decide) h2.1, by rw [g.1 10 2 (Or.inl (by decide))]; exact h2.2⟩, fun o' g1 g2 => ?_, ?_, fun i s2 hi => ?_, h6.e g.2.2.2 e (fun a _ _ => by rw [g.2.2.1])⟩
  · unfold xRk; rw [g.2.2.1]; exact h3 o' g1 g2
  · unfold xKe; rw [g.2.2.1]; exact h4
  · rw [g.2.2.1]
    have hil := (List.getElem?_eq_some_iff.mp hi).1
    have := (h4.1 (u.length - 1 - i) (by omega)).1
    exact g.st ha (by omega) (h5 i s2 hi)
theorem X0.co2 {ks as : List Nat} {ν : XN} {σ' : FS} (g : X0 ks as ν.1 σ') (ha : ∀ a ∈ as, a < 9000) {P : Pl} {s : St} {u : List St} (hu : u.length ≤ 20) (h : xCo ν P s u) : xCo (σ', ν.2) P s u := X0.co (ν' := (σ', ν.2)) g rfl ha hu h
/-- small things that aren't named stay -/
theorem X0.sm {ks as : List Nat} {σ σ' : FS} {Z : Wd} (g : X0 ks as σ σ') (eL : fL σ' 0 22 = fL σ 0 22) (hk : ∀ k ∈ ([2, 3, 4, 18, 21, 25] : List Nat), k ∉ ks) (ha : ∀ a ∈ ([0, 1, 6, 7, 8, 11] : List Nat), a ∉ as) (h : xSm σ Z) : xSm σ' Z := by
  obtain ⟨h1, h2, h3, h4, h5, h6, h7⟩ := h
  have eI : ∀ k ∈ ([2, 3, 4, 18, 21, 25] : List Nat), fI σ' 0 k = fI σ 0 k := fun k z => g.1 0 k (Or.inr (hk k z))
  have eA : ∀ a ∈ ([0, 1, 6, 7, 8, 11] : List Nat), fA σ' a = fA σ a := fun a z => g.2.1 a (ha a z)
  refine ⟨⟨by rw [eI 2 (by decide)]; exact h1.1, by rw [eA 0 (by decide)]; exact h1.2⟩, by rw [eI 3 (by decide), eI 4 (by decide)]; exact h2, by rw [eA 1 (by decide)]; exact h3, ⟨by rw [eI 18 (by decide)]; exact h4.1, by rw [eA 6 (by decide), eA 7 (by decide), eA 8 (by decide)]; exact h4.2⟩, by rw [eI 21 (by decide)]; exact h5, by rw [eL]; exact h6, ⟨by rw [eI 25 (by decide)]; exact h7.1, by rw [eA 11 (by decide)]; exact h7.2⟩⟩
theorem xAll.pb {ν : XN} {Z : Wd} (h : xAll ν Z) : ∃ b, xPb ν b (wP Z) ∧ xPs ν.2 b (wP Z) := by
  obtain ⟨b, b1, b2⟩ := h.2.1.1
  have hn := h.1.np
  exact ⟨b, b2.pb b1 ⟨hn.2.2.1, hn.2.2.2.1, hn.2.1, hn.1⟩, b2⟩
theorem xAll.cl {ν : XN} {Z : Wd} (h : xAll ν Z) : ∀ c, isC (wP Z) c → c < 64 := by
  intro c hc
  have hn := h.1.np
  have := hc.1
  have := hc.2
  omega
theorem xAll.cx {ν : XN} {Z : Wd} {d b : Nat} (h : xAll ν Z) (hd : DP ≤ d) (hb : xPb ν b (wP Z)) (hP : plOK (wP Z)) : xCx (VTA d).1 (VTA d).2 ν b (wP Z) := by
  obtain ⟨b', b1, b2⟩ := h.2.1.1
  have : b = b' := by
    have := hb.1
    rw [b1] at this
    cases this; rfl
  subst this
  exact b2.cx hd b1 hP
theorem xAll.rf {ν : XN} {Z : Wd} {k : Nat} (h : xAll ν Z) (hk : k < 6) : xAll (sA ν.1 1 k (fA ν.1 1 k + nI 1), ν.2) (putRf Z k) := by
  obtain ⟨h1, h2, h3⟩ := h
  have g : X0 [] [1] ν.1 (sA ν.1 1 k (fA ν.1 1 k + nI 1)) := X0.sA _ _ _ (by decide)
  refine ⟨h1, g.co2 (by decide) h1.2.2.2.2.2.2.2.1 h2, ?_⟩
  obtain ⟨q1, q2, q3, q4, q5, q6, q7⟩ := h3
  refine ⟨⟨q1.1, by rw [g.2.1 0 (by decide)]; exact q1.2⟩, q2, fun i hi => ?_, ⟨q4.1, by rw [g.2.1 6 (by decide), g.2.1 7 (by decide), g.2.1 8 (by decide)]; exact q4.2⟩, q5, q6, ⟨q7.1, by rw [g.2.1 11 (by decide)]; exact q7.2⟩⟩
  rw [fA_sA]
  show _ = if i = k then wRf Z i + 1 else wRf Z i
  by_cases z : i = k
  · subst z; rw [if_pos ⟨rfl, rfl⟩, if_pos rfl, q3 i hi]; rfl
  · rw [if_neg (fun q => z q.2), if_neg z]; exact q3 i hi
theorem xl_refuses {ν : XN} {Z : Wd} {k : Nat} {Q : Int32 → XN → Prop} (h : xAll ν Z) (hk : k < 6) (hQ : ∀ ν', xAll ν' (putRf Z k) → Q M1 ν') : xw_X0_refuses (nI k) ν Q := by
  unfold xw_X0_refuses
  simp (disch := omega) only [i_0, i_1, i_2, i_3, i_4, i_5, i_6, i_7, i_8, i_9, i_10, i_11, i_12, i_13, i_16, i_19, i_20, i_21, i_22, i_23, i_24, i_25, i_30, i_31, i_32, i_39, i_40, i_41, i_42, i_43, i_44, i_45, i_47, i_48, i_49, i_50, i_51, i_52, i_57, i_59, i_60, i_61, i_62, i_63, i_64, i_71, i_72, i_80, i_91, i_93, i_97, i_99, i_100, i_122, i_227, i_228, i_232, i_251, i_255, i_256, i_463, i_999, i_1000, i_1519, i_1600, i_9999, i_100000000, i_2147483639, i_2147483647, neg_nI1, nI_add, pk_mul, nI_remL, pk_sub, pk_div, nI_clamp, nI_leI, nI_ltI, nI_eq, vpT, nI_m1, m1_nI, nI_lem1, m1_le, m1_lt, nI_ltm1, nI_bit, nI_shl, nI_xor, nI_or, n_rem, forall_eq, true_and, and_true, implies_true, true_implies, false_implies, not_true_eq_false, not_false_eq_true, Nat.zero_add, Nat.add_zero, ite_true, ite_false, if_true, if_false, true_or, or_true, false_or, or_false, and_self, and_false, false_and, Nat.reduceEqDiff, reduceIte]
  exact hQ _ (h.rf hk)
