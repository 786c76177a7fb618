/-! THE SYSTEM: kinds of statements -/
theorem pB_assoc {α β γ : Type} (x : PR α) (f : α → Nat → PR β) (g : β → Nat → PR γ) : pB (pB x f) g = pB x (fun a b => pB (f a b) g) := by
  cases x with
  | inl q => rfl
  | inr q => rfl
/-- a statement read: only the reader and the fault change -/
def XSs (σ σ' : FS) : Prop := (∀ o k, o ≠ 1 → o ≠ 2 → fI σ' o k = fI σ o k) ∧ fI σ' 1 1 = fI σ 1 1 ∧ fA σ' = fA σ ∧ fB σ' = fB σ ∧ fP σ' = fP σ ∧ fL σ' = fL σ ∧ fR σ' = fR σ
theorem XRr.s {σ σ' : FS} (h : XRr σ σ') : XSs σ σ' := ⟨h.1, h.2.1.1, h.2.2⟩
theorem XTt.s {σ σ' : FS} (h : XTt σ σ') : XSs σ σ' := h.r.s
theorem XSs.refl (σ : FS) : XSs σ σ := (XRr.refl σ).s
theorem XSs.trans {σ σ' σ'' : FS} (h : XSs σ σ') (g : XSs σ' σ'') : XSs σ σ'' := ⟨fun o k a b => (g.1 o k a b).trans (h.1 o k a b), g.2.1.trans h.2.1, g.2.2.1.trans h.2.2.1, g.2.2.2.1.trans h.2.2.2.1, g.2.2.2.2.1.trans h.2.2.2.2.1, g.2.2.2.2.2.1.trans h.2.2.2.2.2.1, g.2.2.2.2.2.2.trans h.2.2.2.2.2.2⟩
theorem XSs.cx (σ : FS) (v : Int32) : XSs σ (sI σ 1 5 v) := ⟨fun o k a _ => by rw [fI_sI, if_neg (fun q => a q.1)], by rw [fI_sI, if_neg (by omega)], rfl, rfl, rfl, rfl, rfl⟩
/-- statements are read at a place: ν0 what stood before the draft -/
def SD (ν0 ν : XN) (t : Nat → Nat) (e a b : Nat) (D : Dr) (m : Nat) : Prop := Tk ν.1 t e a ∧ fI ν.1 1 4 = nI 0 ∧ fR ν.1 1 6 = .ref b ∧ xWs ν0 ∧ XSs ν0.1 ν.1 ∧ Old ν0.2 ν.2 ∧ xDr (fun x => rk ν0.2 x ≠ 0) ν.2 b D m
theorem SD.ws {ν0 ν : XN} {t : Nat → Nat} {e a b m : Nat} {D : Dr} (h : SD ν0 ν t e a b D m) : xWs ν := h.2.2.2.1.old h.2.2.2.2.1.2.2.2.2.2.2 h.2.2.2.2.1.2.2.2.2.1 h.2.2.2.2.2.1
/-- it is read on -/
theorem SD.mv {ν0 ν ν' : XN} {t : Nat → Nat} {e a a' b m : Nat} {D : Dr} (h : SD ν0 ν t e a b D m) (f : XTt ν.1 ν'.1) (o : Old ν.2 ν'.2) (T : Tk ν'.1 t e a') : SD ν0 ν' t e a' b D m :=
  ⟨T, by rw [f.1 1 4 (fun _ => ⟨by decide, by decide⟩) (by decide)]; exact h.2.1, by rw [f.2.2.2.2.2]; exact h.2.2.1, h.2.2.2.1, h.2.2.2.2.1.trans f.s, h.2.2.2.2.2.1.trans o, h.2.2.2.2.2.2.old o⟩
/-- something is put into the draft -/
theorem SD.put {S : Nat → Prop} {ν0 ν ν' : XN} {t : Nat → Nat} {e a b m m' : Nat} {D D' : Dr} (h : SD ν0 ν t e a b D m) (f : ν'.1 = ν.1) (g : Chg S ν.2 ν'.2) (hS : ∀ x, S x → ¬ rk ν0.2 x ≠ 0) (hD : xDr (fun x => rk ν0.2 x ≠ 0) ν'.2 b D' m') : SD ν0 ν' t e a b D' m' :=
  ⟨by rw [f]; exact h.1, by rw [f]; exact h.2.1, by rw [f]; exact h.2.2.1, h.2.2.2.1, by rw [f]; exact h.2.2.2.2.1, h.2.2.2.2.2.1.chg g (fun x hx => Decidable.not_not.mp (hS x hx)), hD⟩
/-- what a call that reads the rest of a statement does, up to the sign at its end -/
def StK (ν0 : XN) (t : Nat → Nat) (e b m : Nat) (sp : Dr → Nat → PR Dr) (EX : XN → Nat → Nat → (XN → Prop) → (XN → Prop) → Prop) : Prop :=
  ∀ (ν : XN) (a k n : Nat) (D : Dr) (Q E : XN → Prop), SD ν0 ν t e a b D m → drOK D → (∀ D' p, sp D a = .inl (D', p) → 80 * (p - a) + 40 ≤ k ∧ 600 * (p - a) + 4 * nx t e p + 400 ≤ n) → (∀ q, sp D a = .inr q → 80 * (e - a) + 160 ≤ k ∧ 600 * (e - a) + 1800 ≤ n) →
    (∀ ν' D' p p', sp D a = .inl (D', p) → SD ν0 ν' t e p' b D' m → a ≤ p' → p' ≤ p → lk t e p' = lk t e p → Q ν') →
    (∀ ν' q, (sp D a = .inr q ∨ ∃ D' p, sp D a = .inl (D', p) ∧ q = (1, lk t e p) ∧ isLt (bt t e (lk t e p)) = true ∧ prt t (lk t e p) = true) → XSs ν0.1 ν'.1 → Old ν0.2 ν'.2 → Bd2 ν'.1 q → E ν') → EX ν k n Q E
def kHigh (t : Nat → Nat) (e : Nat) (D : Dr) (a : Nat) : PR Dr := pB (pCell D.1 t e a) (fun q b => pB (pNum 0 99 t e b) (fun v b2 => .inl ((D.1, up (dH D) q.1 v.1, D.2.2), b2)))
theorem pHigh_k {t : Nat → Nat} {e a : Nat} {D : Dr} : pHigh D t e a = pB (kHigh t e D a) (fun D' b => pFin D' t e b) := by
  unfold pHigh kHigh
  rw [pB_assoc]
  congr 1
  funext q b
  rw [pB_assoc]
  rfl
theorem cell_lt {P : Pl} {t : Nat → Nat} {e a c pl p : Nat} (h : pCell P t e a = .inl ((c, pl), p)) (hC : 1 ≤ plC P ∧ plC P ≤ 8) (hR : 1 ≤ plR P ∧ plR P ≤ 8) : c < 64 := by
  obtain ⟨x, b1, h1, h2⟩ := pB_ok h
  obtain ⟨y, b2, h3, h4⟩ := pB_ok h2
  cases h4
  have q1 := pNum_hi (q := x.2) h1
  have q2 := pNum_hi (q := y.2) h3
  omega
theorem xl_kHigh {ν0 : XN} {t : Nat → Nat} {e b m : Nat} {x2 : Int32} : StK ν0 t e b m (kHigh t e) (fun ν k n Q E => xw_X2_laid_132 x2 0 ν k n (fun r ν' => r = 1 → Q ν') E) := by
  intro ν a k n D Q E hS hd hb1 hb2 hQ hE
  have hC := hd.1.1
  have hR := hd.1.2.1
  show xw_X2_laid_132 x2 0 ν k n _ E
  unfold xw_X2_laid_132
  refine ⟨fun _ => ?_, fun z => absurd rfl z⟩
  refine xl_cellP hS.1 hS.2.2.1 hS.2.2.2.2.2.2 (by omega) (by omega) (fun ν1 c pl p hp hc hlt f1 g1 T1 _ => ?_) (fun ν1 q hp f1 g1 d1 => ?_)
  · have S1 := hS.mv f1 (Old.eq g1) T1
    have hc64 := cell_lt hp (by omega) (by omega)
    refine ⟨b, S1.2.2.1, S1.2.2.2.2.2.2.parts.2.1, ?_⟩
    rw [i_0, i_99]
    refine xl_number T1 (by decide) (by decide) (fun ν2 v p2 hp2 hv hlt2 f2 g2 T2 _ => ?_) (fun ν2 q hp2 f2 g2 d2 => ?_)
    · have S2 := S1.mv f2 (Old.eq g2) T2
      obtain ⟨ha, y1, y2, y3, y4, y5⟩ := S2.2.2.2.2.2.2.high
      have hspec : kHigh t e D a = .inl ((D.1, up (dH D) c v, D.2.2), p2) := by unfold kHigh; rw [hp, pB_inlR, hp2, pB_inlR]
      refine ⟨ha, by rw [← g2]; exact y1, y2, by rw [y3]; exact vp_in_nI hc64 (by decide), ?_⟩
      intro ν3 e3 _
      have e3 : ν3 = (ν2.1, tI ν2.2 ha c (nI v)) := by rw [e3, nI_clamp (by omega)]
      have l1 := (lk_spec (t := t) T1.2.2.2.1).1
      refine hQ ν3 _ p2 p2 hspec ?_ (by omega) (Nat.le_refl _) rfl
      exact S2.put (S := fun x => x = ha) (by rw [e3]) (by rw [e3]; exact Chg.tI _ _ _ rfl) (fun x hx => by rw [show x = ha from hx]; exact y4) (by rw [e3]; exact y5 c v)
    · refine hE ν2 q (Or.inl ?_) (hS.2.2.2.2.1.trans (f1.s.trans f2.s)) (hS.2.2.2.2.2.1.trans (Old.eq (g2.trans g1))) d2
      unfold kHigh
      rw [hp, pB_inlR, hp2]; rfl
  · refine hE ν1 q (Or.inl ?_) (hS.2.2.2.2.1.trans f1.s) (hS.2.2.2.2.2.1.trans (Old.eq g1)) d1
    unfold kHigh
    rw [hp]; rfl
