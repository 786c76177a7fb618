/-! THE SYSTEM: words of tests; facts as they are joined -/
/-- how long the word is that follows -/
def nx (t : Nat → Nat) (e b : Nat) : Nat := wE t e (lk t e b) - lk t e b
theorem nx_lk {t : Nat → Nat} {e b : Nat} (hb : b ≤ e) : nx t e (lk t e b) = nx t e b := by unfold nx; rw [lk_lk hb]
theorem nx_le {t : Nat → Nat} {e b : Nat} (hb : b ≤ e) : nx t e b ≤ e - b := by
  obtain ⟨l1, l2, -, -⟩ := lk_spec (t := t) hb
  have := (run_spec isLt t e _ (lk t e b) rfl l2).2.1
  unfold nx wE
  omega
theorem isW_no {w : List Nat} {t : Nat → Nat} {e a : Nat} (h : prt t a = true) : isW w t e a = false := by
  unfold isW
  rw [h]; simp
theorem isW_no2 {w : List Nat} {t : Nat → Nat} {e a : Nat} (h : isLt (bt t e a) = false) : isW w t e a = false := by
  unfold isW
  rw [h]; simp
theorem xl_pasW {ν : XN} {t : Nat → Nat} {e a k n x : Nat} {w : List Nat} {Q : Int32 → XN → Prop} {E : XN → Prop} (h : Tk ν.1 t e a) (hs : SRep ν.2 x w) (hk : 3 ≤ k) (hn : 2 * nx t e a + 4 ≤ n)
    (hy : ∀ ν', isW w t e (lk t e a) = true → XTt ν.1 ν'.1 → Old ν.2 ν'.2 → Tk ν'.1 t e (wE t e (lk t e a)) → fI ν'.1 1 3 = nI (lk t e a) → Q (nI 1) ν')
    (hno : ∀ ν' a', isW w t e (lk t e a) = false → ¬ (isLt (bt t e (lk t e a)) = true ∧ prt t (lk t e a) = true) → XTt ν.1 ν'.1 → Old ν.2 ν'.2 → Tk ν'.1 t e a' → a ≤ a' → a' ≤ lk t e a → lk t e a' = lk t e a → Q (nI 0) ν')
    (hE : ∀ ν', isLt (bt t e (lk t e a)) = true → prt t (lk t e a) = true → XTt ν.1 ν'.1 → Old ν.2 ν'.2 → Bd2 ν'.1 (1, lk t e a) → E ν') : xw_X2_passes x ν k n Q E := by
  have ha := h.2.2.2.1
  obtain ⟨l1, l2, l3, l4⟩ := lk_spec (t := t) ha
  have T1 := h.mv l2
  have x1 : XTt ν.1 (sI ν.1 1 2 (nI (lk t e a))) := XTt.at _ _
  unfold xw_X2_passes
  refine xl_here h ?_
  refine xl_letter (fun z => h.t z) ?_
  by_cases hL : isLt (bt t e (lk t e a)) = true
  · rw [if_pos hL]
    refine ⟨fun _ => ?_, fun z => absurd z (by decide)⟩
    refine ⟨k, n, 0, 0, by omega, by omega, ?_⟩
    refine xl_word T1 (fun _ => by omega) (fun _ => by rw [lk_lk ha]; unfold nx at hn; omega) (fun ν7 rr _ hp f7 o7 T7 fr7 s7 k7 z7 _ => ?_) (fun ν7 hno' f7 g7 d7 => ?_)
    · rw [lk_lk ha] at T7 fr7 s7 hp
      have xw7 : XTt ν.1 ν7.1 := x1.trans f7
      refine ⟨rcO k7 (by decide), ?_⟩
      refine xl_eq s7 (hs.old o7) ?_
      by_cases hw : wd t (lk t e a) (wE t e (lk t e a)) = w
      · rw [if_pos hw]
        refine ⟨fun z => absurd z (by decide), fun _ => hy ν7 ?_ xw7 o7 T7 fr7⟩
        exact isW_iff.mpr ⟨hL, hp, hw⟩
      · rw [if_neg hw]
        refine ⟨fun _ => ?_, fun z => absurd rfl z⟩
        intro ν16 e16
        have f16 : XTt ν7.1 ν16.1 := by rw [e16]; exact XTt.at _ _
        have r16 : XTt ν.1 ν16.1 := xw7.trans f16
        refine hno ν16 a ?_ (fun z => by rw [hp] at z; cases z.2) r16 (by rw [e16]; exact o7) ?_ (Nat.le_refl _) l1 rfl
        · cases hz : isW w t e (lk t e a) with
          | false => rfl
          | true => exact absurd (isW_iff.mp hz).2.2 hw
        · refine h.to r16.r ?_ ha
          rw [e16]
          show fI (sI ν7.1 1 2 (fI ν.1 1 2)) 1 2 = _
          rw [fI_sI, if_pos ⟨rfl, rfl⟩]; exact h.2.1
    · rw [lk_lk ha] at hno' d7
      refine hE ν7 hL ?_ (x1.trans f7) (Old.eq g7) d7
      cases hz : prt t (lk t e a) with
      | true => rfl
      | false => exact absurd ⟨hL, hz⟩ hno'
  · rw [if_neg hL]
    refine ⟨fun z => absurd rfl z, fun _ => ?_⟩
    have hL' : isLt (bt t e (lk t e a)) = false := by
      cases hz : isLt (bt t e (lk t e a)) with
      | true => exact absurd hz hL
      | false => rfl
    exact hno _ (lk t e a) (isW_no2 hL') (fun z => hL z.1) x1 (Old.refl _) T1 l1 (Nat.le_refl _) (lk_lk ha)
/-- what a call that reads a test does -/
def ElT (al : Nat → Bool) (b0 d : Nat) (t : Nat → Nat) (e r cx m bc bs gc gs : Nat) (sp : Nat → PR (List Nat)) (EX : XN → Nat → Nat → (Nat → XN → Prop) → (XN → Prop) → Prop) : Prop :=
  ∀ (ν : XN) (a k n : Nat) (Q : Nat → XN → Prop) (E : XN → Prop), Rd ν t e a r cx b0 → (∀ cs b, sp a = .inl (cs, b) → 62 * (b - a) ≤ k + bc ∧ 420 * (b - a) + m * nx t e b ≤ n + bs) → (∀ q, sp a = .inr q → 62 * (e - a) + gc ≤ k ∧ 420 * (e - a) + gs ≤ n) →
    (∀ ν' x N cs b b', sp a = .inl (cs, b) → XTt ν.1 ν'.1 → Old ν.2 ν'.2 → Tk ν'.1 t e b' → a ≤ b' → b' ≤ b → lk t e b' = lk t e b → TTs al b0 d N ν'.2 x cs → (∀ y, N y → rk ν.2 y = 0) → Q x ν') →
    (∀ ν' q, (sp a = .inr q ∨ ∃ cs b, sp a = .inl (cs, b) ∧ q = (1, lk t e b) ∧ isLt (bt t e (lk t e b)) = true ∧ prt t (lk t e b) = true) → XRr ν.1 ν'.1 → Old ν.2 ν'.2 → Bd2 ν'.1 q → E ν') → EX ν k n Q E
/-- facts joined, as they are made -/
def FcR (ρ : RS) (q la o : Nat) (as : List Nat) (c : Nat) : Prop := rk ρ q = 18 ∧ rO ρ q 0 = some la ∧ rI ρ q 1 = nI (11 - o) ∧ LC ρ la as c
def lcB (m c : Nat) : Nat := 8 * m + 8 - 4 * c
theorem xl_fcNew {ν : XN} {q o k n : Nat} {Q : XN → Prop} (ho : o = 10 ∨ o = 11) (hq : rk ν.2 q = 18) (hk : 2 ≤ k) (hn : 5 ≤ n)
    (hQ : ∀ ν' la, ν'.1 = ν.1 → FcR ν'.2 q la o [] 2 → Chg (fun a => a = q) ν.2 ν'.2 → (∀ a, LSt ν'.2 la a → rk ν.2 a = 0) → Q ν') : xw_X17_init q (nI (11 - o)) ν k n Q := by
  unfold xw_X17_init xw_X16_init
  refine ⟨k - 1, n - 3, by omega, by omega, fun q2 hq2 ν4 e4 => ⟨1, 2, k - 2, n - 5, by omega, by omega, ?_⟩⟩
  subst e4
  have n1 : q ≠ q2 := fun z => by rw [z, hq2] at hq; cases hq
  unfold xw_J2_init xw_J1_init xw_J0_init
  refine ⟨by rw [rk_tN, if_pos rfl], ?_⟩
  intro ν2 e2
  subst e2
  refine ⟨fun z => absurd z (by decide), fun _ => ⟨by decide, by decide, 0, 0, by decide, by decide, fun q4 hq4 ν6 e6 => ?_⟩⟩
  subst e6
  have hq4' : rk (tN ν.2 q2 7 0) q4 = 0 := hq4
  have n2 : q2 ≠ q4 := fun z => by rw [← z, rk_tN, if_pos rfl] at hq4'; cases hq4'
  have z4 : rk ν.2 q4 = 0 := by rw [rk_tN, if_neg (fun z => n2 z.symm)] at hq4'; exact hq4'
  have n3 : q ≠ q4 := fun z => by rw [z, z4] at hq; cases hq
  refine ⟨by show rk (tN (tI (tN ν.2 q2 7 0) q2 0 0) q4 109 _) q2 = 7; rw [rk_tN, if_neg n2]; show rk (tN ν.2 q2 7 0) q2 = 7; rw [rk_tN, if_pos rfl], ?_⟩
  intro ν12 e12
  have k12 : rk ν12.2 q = 18 := by rw [e12]; show rk (tN (tI (tN ν.2 q2 7 0) q2 0 0) q4 109 _) q = 18; rw [rk_tN, if_neg n3]; show rk (tN ν.2 q2 7 0) q = 18; rw [rk_tN, if_neg n1]; exact hq
  have f12 : ν12.1 = ν.1 := by rw [e12]
  have l12 : LC ν12.2 q2 [] 2 := by
    rw [e12]
    refine ⟨by show rk (tN (tI (tN ν.2 q2 7 0) q2 0 0) q4 109 _) q2 = 7; rw [rk_tN, if_neg n2]; show rk (tN ν.2 q2 7 0) q2 = 7; rw [rk_tN, if_pos rfl], ?_, ⟨q4, by rw [rO_tO, if_pos ⟨rfl, rfl⟩], by show rk (tN (tI (tN ν.2 q2 7 0) q2 0 0) q4 109 _) q4 = 109; rw [rk_tN, if_pos rfl], by show rn (tN (tI (tN ν.2 q2 7 0) q2 0 0) q4 109 _) q4 = 2; rw [rn_tN, if_pos rfl]; rfl, fun i x hx => by simp at hx⟩, by decide, by decide, by decide, by decide, fun x hx => by cases hx⟩
    show rI (tN (tI (tN ν.2 q2 7 0) q2 0 0) q4 109 (Int32.toNatClampNeg 2)) q2 2 = _
    rw [rI_tN, if_neg n2, rI_tI, if_neg (by omega), rI_tN, if_pos rfl]; rfl
  have c12 : Chg (fun a => a = q) ν.2 ν12.2 := by
    rw [e12]
    refine (((Chg.tN (S := fun a => a = q) ν.2 7 0 hq2).trans2 (Chg.tI (S := fun a => a = q2) _ 0 0 rfl) (fun a ha => Or.inr (by rw [ha]; exact hq2))).trans (Chg.tN _ 109 _ hq4)).trans2 (Chg.tO (S := fun a => a = q2) _ _ _ rfl) (fun a ha => Or.inr (by rw [ha]; exact hq2))
  have s12 : ∀ a, LSt ν12.2 q2 a → rk ν.2 a = 0 := by
    intro a ha
    rcases ha with z | z
    · rw [z]; exact hq2
    · rw [e12] at z
      have z : rO (tO (tN (tI (tN ν.2 q2 7 0) q2 0 0) q4 109 _) q2 1 (some q4)) q2 1 = some a := z
      rw [rO_tO, if_pos ⟨rfl, rfl⟩] at z
      cases z; exact z4
  clear e12
  refine ⟨k12, ?_⟩
  intro ν17 e17
  have c17 : Chg (fun a => a = q) ν12.2 ν17.2 := by rw [e17]; exact Chg.tO _ _ _ rfl
  have k17 : rk ν17.2 q = 18 := by rw [e17]; exact k12
  have o17 : rO ν17.2 q 0 = some q2 := by rw [e17]; show rO (tO ν12.2 q 0 (some q2)) q 0 = _; rw [rO_tO, if_pos ⟨rfl, rfl⟩]
  have l17 : LC ν17.2 q2 [] 2 := l12.mv (c17.sme (fun x hx => ⟨by rcases LSt.k l12 hx with v | v <;> rw [v] <;> decide, fun w => by rcases LSt.k l12 hx with v | v <;> rw [w, k12] at v <;> cases v⟩)) (fun x hx => by cases hx)
  have f17 : ν17.1 = ν.1 := by rw [e17]; exact f12
  have s17 : ∀ a, LSt ν17.2 q2 a → rk ν.2 a = 0 := by
    intro a ha
    refine s12 a ?_
    rcases ha with z | z
    · exact Or.inl z
    · rw [e17] at z
      have z : rO (tO ν12.2 q 0 (some q2)) q2 1 = some a := z
      rw [rO_tO, if_neg (fun w => n1 w.1.symm)] at z
      exact Or.inr z
  have cc := c12.trans c17
  clear e17
  refine ⟨k17, by rcases ho with rfl | rfl <;> rfl, by rcases ho with rfl | rfl <;> rfl, ?_⟩
  intro ν20 e20
  have c20 : Chg (fun a => a = q) ν17.2 ν20.2 := by rw [e20]; exact Chg.tI _ _ _ rfl
  refine hQ ν20 q2 (by rw [e20]; exact f17) ⟨by rw [e20]; exact k17, by rw [e20]; exact o17, by rw [e20]; show rI (tI ν17.2 q 1 (nI (11 - o))) q 1 = _; rw [rI_tI, if_pos ⟨rfl, rfl⟩], ?_⟩ (cc.trans c20) (fun a ha => s17 a ?_)
  · exact l17.mv (c20.sme (fun x hx => ⟨by rcases LSt.k l17 hx with v | v <;> rw [v] <;> decide, fun w => by rcases LSt.k l17 hx with v | v <;> rw [w, k17] at v <;> cases v⟩)) (fun x hx => by cases hx)
  · rcases ha with z | z
    · exact Or.inl z
    · rw [e20] at z
      exact Or.inr z
/-- what is known while facts are joined -/
def FcI (al : Nat → Bool) (b0 d : Nat) (ρ0 : RS) (N : Nat → Prop) (ρ : RS) (q la b o : Nat) (as c0 cs : List Nat) : Prop :=
  (∀ x, N x → rk ρ x ≠ 0 ∧ ¬ LSt ρ la x ∧ x ≠ q ∧ rk ρ0 x = 0) ∧ (∀ ρ', Sme N ρ ρ' → (VT al b0 ρ' d).2 b c0 ∧ jn (VT al b0 ρ' d).2 as (as.map (fun _ => o)) c0 cs) ∧ rk ρ0 q = 0 ∧ (∀ a, LSt ρ la a → rk ρ0 a = 0) ∧ Old ρ0 ρ
theorem FcI.v {al : Nat → Bool} {b0 d q la b o c : Nat} {ρ0 ρ : RS} {N : Nat → Prop} {as c0 cs : List Nat} (ho : o = 10 ∨ o = 11) (h : FcI al b0 d ρ0 N ρ q la b o as c0 cs) (g : FcR ρ q la o (b :: as) c) :
    TTs al b0 (d + 1) (fun x => N x ∨ x = q ∨ LSt ρ la x) ρ q cs ∧ ∀ y, (N y ∨ y = q ∨ LSt ρ la y) → rk ρ0 y = 0 := by
  obtain ⟨h1, h2, h4, h5, h6⟩ := h
  obtain ⟨g1, g2, g3, g4⟩ := g
  refine ⟨⟨fun x hx => ?_, fun ρ' hs => ?_⟩, fun y hy => ?_⟩
  · rcases hx with z | z | z
    · exact (h1 x z).1
    · rw [z, g1]; decide
    · rcases LSt.k g4 z with v | v <;> rw [v] <;> decide
  · have eq := hs q (Or.inr (Or.inl rfl))
    obtain ⟨v1, v2⟩ := h2 ρ' (fun x hx => hs x (Or.inl hx))
    exact Or.inr (Or.inr (Or.inr ⟨rcO (by rw [eq.1]; exact g1) (by decide), la, b, as, c0, o, ho, by rw [eq.2.2.1]; exact g3, by rw [eq.2.2.2.2]; exact g2, g4.rep' (fun x hx => hs x (Or.inr (Or.inr hx))), v1, v2⟩))
  · rcases hy with z | z | z
    · exact (h1 y z).2.2.2
    · rw [z]; exact h4
    · exact h5 y z
theorem cW_t : cW 16 = str 87 ∧ cW 17 = str 86 ∧ cW 18 = str 85 ∧ cW 19 = str 88 := by decide
