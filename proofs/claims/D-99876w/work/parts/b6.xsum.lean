/-! THE SYSTEM: products, sums -/
theorem xWs.old {ν ν' : XN} (h : xWs ν) (e1 : fR ν'.1 = fR ν.1) (e3 : fP ν'.1 = fP ν.1) (o : Old ν.2 ν'.2) : xWs ν' := by
  obtain ⟨h1, h2, h3, h4⟩ := h
  refine ⟨fun k hk => ?_, fun k hk => ?_, ?_, h4.e (fun a _ _ => by rw [e3])⟩
  · obtain ⟨a, a1, a2⟩ := h1 k hk
    exact ⟨a, by rw [e1]; exact a1, a2.old o⟩
  · obtain ⟨a, a1, a2⟩ := h2 k hk
    exact ⟨a, by rw [e1]; exact a1, a2.old o⟩
  · rw [e1]; exact h3
/-- ready to read at a place: r may still be opened -/
def Rd (ν : XN) (t : Nat → Nat) (e a r cx b0 : Nat) : Prop := Tk ν.1 t e a ∧ (fI ν.1 1 4 = nI (6 - r) ∧ r ≤ 6) ∧ fI ν.1 1 5 = nI cx ∧ xWs ν ∧ fR ν.1 901 5 = .ref b0
theorem Rd.mv {ν ν' : XN} {t : Nat → Nat} {e a b r cx b0 : Nat} (h : Rd ν t e a r cx b0) (f : XTt ν.1 ν'.1) (o : Old ν.2 ν'.2) (ht : Tk ν'.1 t e b) : Rd ν' t e b r cx b0 :=
  ⟨ht, ⟨by rw [f.1 1 4 (fun _ => ⟨by decide, by decide⟩) (by decide)]; exact h.2.1.1, h.2.1.2⟩, by rw [f.1 1 5 (fun _ => ⟨by decide, by decide⟩) (by decide)]; exact h.2.2.1, h.2.2.2.1.old f.2.2.2.2.2 f.2.2.2.1 o, by rw [f.2.2.2.2.2]; exact h.2.2.2.2⟩
theorem Old.eq {ρ ρ' : RS} (h : ρ' = ρ) : Old ρ ρ' := by rw [h]; exact Old.refl _
/-- what a call that reads and makes a tree does: bd what is left over, g what a failing one may need -/
def ElL (al : Nat → Bool) (b0 d : Nat) (t : Nat → Nat) (e r cx bc bs gc gs : Nat) (sp : Nat → PR (List Nat)) (EX : XN → Nat → Nat → (Nat → XN → Prop) → (XN → Prop) → Prop) : Prop :=
  ∀ (ν : XN) (a k n : Nat) (Q : Nat → XN → Prop) (E : XN → Prop), Rd ν t e a r cx b0 → (∀ cs b, sp a = .inl (cs, b) → 60 * (b - a) ≤ k + bc ∧ 400 * (b - a) ≤ n + bs) → (∀ q, sp a = .inr q → 60 * (e - a) + gc ≤ k ∧ 400 * (e - a) + gs ≤ n) →
    (∀ ν' x N cs b, sp a = .inl (cs, b) → XTt ν.1 ν'.1 → Old ν.2 ν'.2 → Tk ν'.1 t e b → VTs al b0 d N ν'.2 x cs → (∀ y, N y → rk ν.2 y = 0) → Q x ν') →
    (∀ ν' q, sp a = .inr q → XRr ν.1 ν'.1 → Old ν.2 ν'.2 → Bd2 ν'.1 q → E ν') → EX ν k n Q E
theorem opM_sg (c : Nat) : opM c = 0 ∨ (c = 42 ∧ opM c = sgO 42) ∨ (c = 47 ∧ opM c = sgO 47) := by
  unfold opM
  split
  · right; left; rename_i h; exact ⟨h, rfl⟩
  · split
    · right; right; rename_i h; exact ⟨h, rfl⟩
    · left; rfl
theorem opA_sg (c : Nat) : opA c = 0 ∨ (c = 43 ∧ opA c = sgO 43) ∨ (c = 45 ∧ opA c = sgO 45) := by
  unfold opA
  split
  · right; left; rename_i h; exact ⟨h, rfl⟩
  · split
    · right; right; rename_i h; exact ⟨h, rfl⟩
    · left; rfl
theorem LC.rep' {ρ ρ' : RS} {la c : Nat} {as : List Nat} (h : LC ρ la as c) (g : Sme (LSt ρ la) ρ ρ') : LRep ρ' la as := by
  obtain ⟨h1, h2, ⟨ea, h3, h4, h5, h6⟩, h7, h8, h9, h10, -⟩ := h
  have e1 := g la (Or.inl rfl)
  have e2 := g ea (Or.inr h3)
  exact ⟨rcO (by rw [e1.1]; exact h1) (by decide), by rw [e1.2.2.1]; exact h2, ea, by rw [e1.2.2.2.2]; exact h3, rcO (by rw [e2.1]; exact h4) (by decide), by rw [e2.2.1]; omega, by rw [e2.2.1]; omega, fun k x hk => by rw [e2.2.2.2.2]; exact h6 k x hk⟩
/-- what is known while a chain is made -/
def ChI (al : Nat → Bool) (b0 d : Nat) (ρ0 : RS) (N : Nat → Prop) (ρ : RS) (q la lb b : Nat) (as sg c0 cs : List Nat) : Prop :=
  (∀ x, N x → rk ρ x ≠ 0 ∧ ¬ ChS ρ la lb x ∧ x ≠ q ∧ rk ρ0 x = 0) ∧ (∀ ρ', Sme N ρ ρ' → (VT al b0 ρ' d).1 b c0 ∧ jn (VT al b0 ρ' d).1 as (sg.map sgO) c0 cs) ∧ (∀ x ∈ sg, sgO x ≠ 0) ∧ rk ρ0 q = 0 ∧ (∀ a, ChS ρ la lb a → rk ρ0 a = 0) ∧ Old ρ0 ρ
/-- a chain that is made is a tree -/
theorem ChI.v {al : Nat → Bool} {b0 d q la lb b s c cB : Nat} {ρ0 ρ : RS} {N : Nat → Prop} {as sg c0 cs : List Nat} (h : ChI al b0 d ρ0 N ρ q la lb b as sg c0 cs) (g : ChR ρ q la lb (b :: as) (s :: sg) c cB) :
    VTs al b0 (d + 1) (fun x => N x ∨ x = q ∨ ChS ρ la lb x) ρ q cs ∧ ∀ y, (N y ∨ y = q ∨ ChS ρ la lb y) → rk ρ0 y = 0 := by
  obtain ⟨h1, h2, h3, h4, h5, h6⟩ := h
  obtain ⟨g1, g2, g3, g4, g5⟩ := g
  refine ⟨⟨fun x hx => ?_, fun ρ' hs => ?_⟩, fun y hy => ?_⟩
  · rcases hx with z | z | z | z
    · exact (h1 x z).1
    · rw [z, g1]; decide
    · rcases LSt.k g4 z with v | v <;> rw [v] <;> decide
    · rcases BSt.k g5 z with v | v <;> rw [v] <;> decide
  · have eq := hs q (Or.inr (Or.inl rfl))
    obtain ⟨v1, v2⟩ := h2 ρ' (fun x hx => hs x (Or.inl hx))
    refine Or.inr (Or.inr (Or.inr (Or.inr ⟨rcO (by rw [eq.1]; exact g1) (by decide), la, lb, b, as, sg, s, c0, by rw [eq.2.2.2.2]; exact g2, g4.rep' (fun x hx => hs x (Or.inr (Or.inr (Or.inl hx)))), by rw [eq.2.2.2.2]; exact g3, (g5.mv (fun x hx => hs x (Or.inr (Or.inr (Or.inr hx))))).rep, v1, h3, v2⟩)))
  · rcases hy with z | z | z
    · exact (h1 y z).2.2.2
    · rw [z]; exact h4
    · exact h5 y z
theorem adv_sumG {t : Nat → Nat} {e : Nat} {AT : Nat → PR (List Nat)} (hA : adv e AT) : adv e (fun a => pB (AT a) (fun cs b => chL AT opA t e (e + 1 - b) cs b)) := by
  intro a cs b ha h
  obtain ⟨x, b1, h1, h2⟩ := pB_ok h
  have q1 := hA _ _ _ ha h1
  have q2 := adv_chL (by decide) hA _ _ _ _ _ q1.2 h2
  omega
theorem chL_adv {t : Nat → Nat} {e : Nat} {AT : Nat → PR (List Nat)} {ops : Nat → Nat} (h9 : ops 999 = 0) (hA : adv e AT) : ∀ (f : Nat) (cs : List Nat) (a : Nat) (ds : List Nat) (b : Nat), a ≤ e → chL AT ops t e f cs a = .inl (ds, b) → a ≤ b ∧ b ≤ e
  | 0, cs, a, ds, b, ha, h => by
    simp only [chL] at h
    cases h
    have := lk_spec (t := t) ha
    exact ⟨this.1, this.2.1⟩
  | f + 1, cs, a, ds, b, ha, h => by
    obtain ⟨l1, l2, l3, l4⟩ := lk_spec (t := t) ha
    simp only [chL] at h
    split at h
    · cases h; exact ⟨l1, l2⟩
    · rename_i hne
      have hlt : lk t e a < e := by
        rcases Nat.lt_or_ge (lk t e a) e with z | z
        · exact z
        · exfalso
          apply hne
          unfold bt
          rw [if_neg (by omega)]; exact h9
      cases hs : AT (lk t e a + 1) with
      | inr q => rw [hs] at h; cases h
      | inl cb =>
        obtain ⟨es, c⟩ := cb
        rw [hs] at h
        obtain ⟨⟨v1, -⟩, v3⟩ := hA _ es c (by omega) hs
        have := chL_adv h9 hA f _ c ds b v3 h
        omega
theorem xl_productV {al : Nat → Bool} {b0 d e r cx bc bs gc gs : Nat} {t : Nat → Nat} {sp : Nat → PR (List Nat)} {AT : XN → Nat → Nat → (Nat → XN → Prop) → (XN → Prop) → Prop} (hA : ElL al b0 d t e r cx bc bs gc gs sp (AT)) (hv : adv e sp) (hbc : 7 ≤ bc ∧ bc ≤ 20) (hbs : 47 ≤ bs ∧ bs ≤ 150) (hgc : 40 ≤ gc) (hgs : 200 ≤ gs) : ElL al b0 (d + 1) t e r cx (bc - 7) (bs - 47) (gc + 7) (gs + 47) (fun a => pB (sp a) (fun cs b => chL sp opM t e (e + 1 - b) cs b)) (xw_X2_product AT) := by
  intro ν a k n Q E hR hb1 hb2 hQ hE
  have hT := hR.1
  have ha : a ≤ e := hT.2.2.2.1
  have he : e ≤ 1600 := hT.2.2.1
  have hkn : 40 ≤ k ∧ 200 ≤ n := by
    cases hw : pB (sp a) (fun cs b => chL sp opM t e (e + 1 - b) cs b) with
    | inl cb =>
      obtain ⟨cs, b⟩ := cb
      have h1 := hb1 cs b hw
      have h2 := ((adv_prod hv) a cs b ha hw).1.1
      omega
    | inr q =>
      have h1 := hb2 q hw
      omega
  unfold xw_X2_product
  refine ⟨k - 1, n - 2, by omega, by omega, fun q1 hq1 ν3 e3 => ⟨4, 25, k - 5, n - 27, by omega, by omega, ?_⟩⟩
  have k3 : rk ν3.2 q1 = 12 := by rw [e3]; show rk (tN ν.2 q1 12 0) q1 = 12; rw [rk_tN, if_pos rfl]
  have f3 : ν3.1 = ν.1 := by rw [e3]
  have c3 : Chg (fun a => a = q1) ν.2 ν3.2 := by rw [e3]; exact Chg.tN _ _ _ hq1
  clear e3
  refine xl_chNew k3 (by omega) (by omega) (fun ν9 la lb e9 hC9 c9 z9 => ?_)
  have cc9 := c3.trans c9
  have o9 : Old ν.2 ν9.2 := (Old.refl _).chg cc9 (fun x hx => by rw [hx]; exact hq1)
  have f9 : ν9.1 = ν.1 := e9.trans f3
  have x9 : XTt ν.1 ν9.1 := by rw [f9]; exact XTt.refl _
  have R9 : Rd ν9 t e a r cx b0 := hR.mv x9 o9 (by rw [f9]; exact hT)
  have zz9 : ∀ x, ChS ν9.2 la lb x → rk ν.2 x = 0 := fun x hx => (Old.refl ν.2).chg c3 (fun y hy => by rw [hy]; exact hq1) |>.z (z9 x hx)
  -- the loop
  have loop : ∀ (X : Nat → Int32 → XN → Nat → Nat → Prop), (∀ (x1 : Nat) (x2 : Int32) (ν : XN) (k n : Nat), ((x2 = 0 → Q x1 ν) ∧ (¬ x2 = 0 → (xw_X2_takes (42 : Int32) ν (fun r33 ν32 => ((r33 = 0 → (xw_X2_takes (47 : Int32) ν32 (fun r35 ν34 => ((r35 = 0 → X x1 0 ν34 k n) ∧ (¬ r35 = 0 → (∃ k38 n39 k40 n41, k38 + k40 ≤ k ∧ n39 + n41 ≤ n ∧ AT ν34 k38 n39 (fun r37 ν36 => (rc ν36.2 x1 = 12 ∧ (∃ k46 n47 k48 n49, k46 + k48 ≤ k40 ∧ n47 + n49 ≤ n41 ∧ xw_X11_add x1 (47 : Int32) r37 ν36 k46 n47 (fun ν44 => X x1 x2 ν44 k48 n49)))) E)))))) ∧ (¬ r33 = 0 → (∃ k54 n55 k56 n57, k54 + k56 ≤ k ∧ n55 + n57 ≤ n ∧ AT ν32 k54 n55 (fun r53 ν52 => (rc ν52.2 x1 = 12 ∧ (∃ k62 n63 k64 n65, k62 + k64 ≤ k56 ∧ n63 + n65 ≤ n57 ∧ xw_X11_add x1 (42 : Int32) r53 ν52 k62 n63 (fun ν60 => X x1 x2 ν60 k64 n65)))) E))))))) → X x1 x2 ν k n) →
      ∀ (f a1 : Nat) (cs as sg c0 : List Nat) (b s c cB : Nat) (N : Nat → Prop) (ν1 : XN) (k1 n1 : Nat), e + 1 - a1 ≤ f → a < a1 → as.length + 1 ≤ a1 - a → Rd ν1 t e a1 r cx b0 → XTt ν.1 ν1.1 → ChR ν1.2 q1 la lb (b :: as) (s :: sg) c cB → ChI al b0 d ν.2 N ν1.2 q1 la lb b as sg c0 cs → as.length = sg.length → (∀ cs' b', chL sp opM t e f cs a1 = .inl (cs', b') → pB (sp a) (fun cs b => chL sp opM t e (e + 1 - b) cs b) = .inl (cs', b') ∧ 60 * (b' - a1) ≤ k1 ∧ 400 * (b' - a1) + chB (as.length + 1) c cB ≤ n1) → (∀ q, chL sp opM t e f cs a1 = .inr q → pB (sp a) (fun cs b => chL sp opM t e (e + 1 - b) cs b) = .inr q ∧ 60 * (e - a1) + gc ≤ k1 ∧ 400 * (e - a1) + gs + chB (as.length + 1) c cB ≤ n1) → X q1 (nI 1) ν1 k1 n1 := by
    intro X hX f
    induction f with
    | zero =>
      intro a1 cs as sg c0 b s c cB N ν1 k1 n1 hf _ _ hR1 _ _ _ _ _ _
      have := hR1.1.2.2.2.1
      omega
    | succ f ih =>
      intro a1 cs as sg c0 b s c cB N ν1 k1 n1 hf haa hlen hR1 hx1 hC hI hl hy hn
      have hT1 := hR1.1
      have ha1 : a1 ≤ e := hT1.2.2.2.1
      obtain ⟨l1, l2, l3, l4⟩ := lk_spec (t := t) ha1
      simp only [chL] at hy hn
      obtain ⟨i1, i2, i3, i4, i5, i6⟩ := hI
      have g4 := hC.2.2.2.1
      have g5 := hC.2.2.2.2
      have hlc := g4.2.2.2
      have hbc' := g5.2.2.2.2
      simp only [List.length_cons] at hlc hbc'
      -- a sign, and a part behind it
      have elem : ∀ (sn : Nat) (ν2 : XN), sn < 128 → sgO sn ≠ 0 → opM (bt t e (lk t e a1)) = sgO sn → lk t e a1 < e → XTt ν1.1 ν2.1 → ν2.2 = ν1.2 → Tk ν2.1 t e (lk t e a1 + 1) → (∃ k38 n39 k40 n41, k38 + k40 ≤ k1 ∧ n39 + n41 ≤ n1 ∧ AT ν2 k38 n39 (fun r37 ν36 => (rc ν36.2 q1 = 12 ∧ (∃ k46 n47 k48 n49, k46 + k48 ≤ k40 ∧ n47 + n49 ≤ n41 ∧ xw_X11_add q1 (nI sn) r37 ν36 k46 n47 (fun ν44 => X q1 (nI 1) ν44 k48 n49)))) E) := by
        intro sn ν2 hsn hsg hop hlt f2 e2 T2
        rw [if_neg (by rw [hop]; exact hsg), hop] at hy hn
        have hR2 : Rd ν2 t e (lk t e a1 + 1) r cx b0 := hR1.mv f2 (Old.eq e2) T2
        cases hs2 : sp (lk t e a1 + 1) with
        | inr q2 =>
          rw [hs2] at hn
          obtain ⟨w1, w2, w3⟩ := hn q2 rfl
          refine ⟨k1, n1, 0, 0, by omega, by omega, ?_⟩
          refine hA ν2 _ k1 n1 _ _ hR2 (fun cs' b' hh => by rw [hs2] at hh; cases hh) (fun q' hh => ⟨by omega, by omega⟩) (fun ν' x N' cs' b' hh => by rw [hs2] at hh; cases hh) (fun ν' q' hh f' o' d' => ?_)
          rw [hs2] at hh
          cases hh
          exact hE ν' _ w1 (hx1.r.trans (f2.r.trans f')) (i6.trans ((Old.eq e2).trans o')) d'
        | inl cb =>
          obtain ⟨ds, b2⟩ := cb
          rw [hs2] at hy hn
          simp only [pB] at hy hn
          obtain ⟨⟨v1, v2⟩, v3⟩ := hv _ ds b2 (by omega) hs2
          have gk := grw_ok (c := c) (m := as.length + 1) (by omega) (by omega) (by omega)
          have gb := grB_ok (c := cB) (m := sg.length + 1) (by omega) (by omega) (by omega)
          have hcb : 4 * (grw c (as.length + 1) - c) + 2 * (grB cB (sg.length + 1) - cB) + chB (as.length + 1 + 1) (grw c (as.length + 1)) (grB cB (sg.length + 1)) ≤ chB (as.length + 1) c cB + 12 := by
            unfold chB; omega
          have hkk : 60 * (b2 - (lk t e a1 + 1)) + 2 ≤ k1 + bc ∧ 400 * (b2 - (lk t e a1 + 1)) + chB (as.length + 1) c cB + 12 ≤ n1 + bs := by
            cases hw : chL sp opM t e f (cs ++ ds ++ [sgO sn]) b2 with
            | inl cb =>
              obtain ⟨cs', b'⟩ := cb
              have h1 := hy cs' b' hw
              have h2 := chL_adv (by decide) hv f (cs ++ ds ++ [sgO sn]) b2 cs' b' v3 hw
              omega
            | inr q =>
              have h1 := hn q hw
              omega
          refine ⟨60 * (b2 - (lk t e a1 + 1)) - bc, 400 * (b2 - (lk t e a1 + 1)) - bs, k1 - (60 * (b2 - (lk t e a1 + 1)) - bc), n1 - (400 * (b2 - (lk t e a1 + 1)) - bs), by omega, by omega, ?_⟩
          refine hA ν2 _ _ _ _ _ hR2 (fun cs' b' hh => ?_) (fun q' hh => by rw [hs2] at hh; cases hh) (fun ν' x N' cs' b' hh f' o' T' V' z' => ?_) (fun ν' q' hh => by rw [hs2] at hh; cases hh)
          · rw [hs2] at hh
            cases hh
            omega
          · rw [hs2] at hh
            cases hh
            have o1' : Old ν1.2 ν'.2 := (Old.eq e2).trans o'
            have kq : rk ν'.2 q1 = 12 := by rw [(o1' q1 (by rw [hC.1]; decide)).1]; exact hC.1
            have hlst : ∀ y, LSt ν1.2 la y → rk ν1.2 y ≠ 0 := fun y hy => by rcases LSt.k g4 hy with v | v <;> rw [v] <;> decide
            have hbst : ∀ y, BSt ν1.2 lb y → rk ν1.2 y ≠ 0 := fun y hy => by rcases BSt.k g5 hy with v | v <;> rw [v] <;> decide
            have C' : ChR ν'.2 q1 la lb (b :: as) (s :: sg) c cB := by
              have eq := o1' q1 (by rw [hC.1]; decide)
              refine ⟨kq, by rw [eq.2.2.2.2]; exact hC.2.1, by rw [eq.2.2.2.2]; exact hC.2.2.1, g4.mv (fun y hy => o1' y (hlst y hy)) (fun y hy => (o1' y (rc_rk (by have := g4.2.2.2.2.2.2.2 y hy; omega))).1), g5.mv (fun y hy => o1' y (hbst y hy))⟩
            have S' : ∀ y, ChS ν'.2 la lb y → ChS ν1.2 la lb y := by
              intro y hy
              rcases hy with (z | z) | (z | z)
              · exact Or.inl (Or.inl z)
              · rw [(o1' la (hlst la (Or.inl rfl))).2.2.2.2] at z; exact Or.inl (Or.inr z)
              · exact Or.inr (Or.inl z)
              · rw [(o1' lb (hbst lb (Or.inl rfl))).2.2.2.2] at z; exact Or.inr (Or.inr z)
            have xc : 1 ≤ rc ν'.2 x ∧ rc ν'.2 x < 23 := by have := VT.isV V'.v; omega
            refine ⟨rcO kq (by decide), 2, 4 * (grw c (as.length + 1) - c) + 2 * (grB cB (sg.length + 1) - cB), k1 - (60 * (b2 - (lk t e a1 + 1)) - bc) - 2, n1 - (400 * (b2 - (lk t e a1 + 1)) - bs) - (4 * (grw c (as.length + 1) - c) + 2 * (grB cB (sg.length + 1) - cB)), by omega, by omega, ?_⟩
            refine xl_chAdd C' (by simp [hl]) (by simp only [List.length_cons]; omega) hsn xc (by omega) (by simp only [List.length_cons]; omega) (fun ν4 e4 C4 c4 z4 => ?_)
            have f4 : XTt ν'.1 ν4.1 := by rw [e4]; exact XTt.refl _
            have new' : ∀ y, ChS ν'.2 la lb y → rk ν.2 y = 0 := fun y hy => i5 y (S' y hy)
            have o4 : Old ν.2 ν4.2 := (i6.trans o1').chg c4 new'
            have hx4 : XTt ν.1 ν4.1 := ((hx1.trans f2).trans f').trans f4
            have T4 : Tk ν4.1 t e b2 := by rw [e4]; exact T'
            have ows : xWs ν4 := hR.2.2.2.1.old hx4.2.2.2.2.2 hx4.2.2.2.1 o4
            have R4 : Rd ν4 t e b2 r cx b0 := hR.mv hx4 o4 T4
            simp only [List.length_cons] at C4
            have nN : ∀ y, N y → rk ν'.2 y ≠ 0 ∧ ¬ ChS ν'.2 la lb y := fun y hy => ⟨by rw [(o1' y (i1 y hy).1).1]; exact (i1 y hy).1, fun w => (i1 y hy).2.1 (S' y w)⟩
            have nN' : ∀ y, N' y → rk ν'.2 y ≠ 0 ∧ ¬ ChS ν'.2 la lb y := fun y hy => ⟨V'.1 y hy, fun w => by
              have h1 : rk ν2.2 y = 0 := z' y hy
              rw [e2] at h1
              rcases S' y w with v | v
              · exact hlst y v h1
              · exact hbst y v h1⟩
            have sN : Sme N ν'.2 ν4.2 := c4.sme nN
            have sN' : Sme N' ν'.2 ν4.2 := c4.sme nN'
            have key := ih b2 (cs ++ ds ++ [sgO sn]) (as ++ [x]) (sg ++ [sn]) c0 b s (grw c (as.length + 1)) (grB cB (sg.length + 1)) (fun y => N y ∨ N' y) ν4 (k1 - (60 * (b2 - (lk t e a1 + 1)) - bc) - 2) (n1 - (400 * (b2 - (lk t e a1 + 1)) - bs) - (4 * (grw c (as.length + 1) - c) + 2 * (grB cB (sg.length + 1) - cB))) (by omega) (by omega) (by simp; omega) R4 hx4 C4 ?_ (by simp [hl]) (fun cs' b' hh => ?_) (fun q' hh => ?_)
            · exact key
            · refine ⟨fun y hy => ?_, fun ρ' hs => ?_, fun y hy => ?_, i4, fun y hy => ?_, o4⟩
              · rcases hy with w | w
                · refine ⟨by rw [(c4.1 y (nN y w).1).1]; exact (nN y w).1, fun u => ?_, (i1 y w).2.2.1, (i1 y w).2.2.2⟩
                  rcases z4 y u with v | v
                  · exact (nN y w).2 v
                  · exact (nN y w).1 v
                · have h1 : rk ν2.2 y = 0 := z' y w
                  rw [e2] at h1
                  refine ⟨by rw [(c4.1 y (nN' y w).1).1]; exact (nN' y w).1, fun u => ?_, (fun u => by rw [u, hC.1] at h1; cases h1), i6.z h1⟩
                  rcases z4 y u with v | v
                  · exact (nN' y w).2 v
                  · exact (nN' y w).1 v
              · obtain ⟨y1, y2⟩ := i2 ρ' (fun y hy => Eqa.trans (o1' y (i1 y hy).1) ((sN y hy).trans (hs y (Or.inl hy))))
                have y3 := V'.2 ρ' (fun y hy => (sN' y hy).trans (hs y (Or.inr hy)))
                refine ⟨y1, ?_⟩
                rw [List.map_append]
                exact jn.snoc y3 (by omega) (by have := sgO_lt sn; omega) y2
              · rcases List.mem_append.mp hy with w | w
                · exact i3 y w
                · simp at w; rw [w]; exact hsg
              · rcases z4 y hy with v | v
                · exact new' y v
                · exact (i6.trans o1').z v
            · obtain ⟨w1, w2, w3⟩ := hy cs' b' hh
              have h2 := chL_adv (by decide) hv f _ b2 cs' b' v3 hh
              refine ⟨w1, by omega, ?_⟩
              simp only [List.length_append, List.length_singleton]
              omega
            · obtain ⟨w1, w2, w3⟩ := hn q' hh
              refine ⟨w1, by omega, ?_⟩
              simp only [List.length_append, List.length_singleton]
              omega
      refine hX _ _ _ _ _ ⟨fun z => absurd z (by decide), fun _ => ?_⟩
      refine xl_takes (c := 42) hT1 (by decide) (fun ν2 hbt f2 e2 T2 => ⟨fun z => absurd z (by decide), fun _ => ?_⟩) (fun ν2 hbt f2 e2 T2 => ⟨fun _ => ?_, fun z => absurd rfl z⟩)
      · refine elem 42 ν2 (by decide) (by decide) (by rw [hbt]; rfl) ?_ f2 e2 T2
        have := T2.2.2.2.1; omega
      · refine xl_takes (c := 47) T2 (by decide) (fun ν3' hbt2 f3' e3' T3 => ⟨fun z => absurd z (by decide), fun _ => ?_⟩) (fun ν3' hbt2 f3' e3' T3 => ⟨fun _ => ?_, fun z => absurd rfl z⟩)
        · rw [lk_lk ha1] at hbt2 T3
          refine elem 47 ν3' (by decide) (by decide) (by rw [hbt2]; rfl) ?_ (f2.trans f3') (e3'.trans e2) T3
          have := T3.2.2.2.1; omega
        · rw [lk_lk ha1] at hbt2 T3
          refine hX _ _ _ _ _ ⟨fun _ => ?_, fun z => absurd rfl z⟩
          have hop : opM (bt t e (lk t e a1)) = 0 := by
            rcases opM_sg (bt t e (lk t e a1)) with w | w | w
            · exact w
            · exact absurd w.1 hbt
            · exact absurd w.1 hbt2
          rw [if_pos hop] at hy
          obtain ⟨w1, w2, w3⟩ := hy cs _ rfl
          have e13 : ν3'.2 = ν1.2 := e3'.trans e2
          obtain ⟨V, Z⟩ := ChI.v (c := c) (cB := cB) (s := s) ⟨i1, i2, i3, i4, i5, i6⟩ hC
          refine hQ ν3' q1 _ cs _ w1 ((hx1.trans f2).trans f3') (i6.trans (Old.eq e13)) T3 (by rw [e13]; exact V) Z
  cases hs : sp a with
  | inr q =>
    have hsp : pB (sp a) (fun cs b => chL sp opM t e (e + 1 - b) cs b) = .inr q := by rw [hs]; rfl
    obtain ⟨w1, w2⟩ := hb2 q hsp
    refine ⟨k - 5, n - 27, 0, 0, by omega, by omega, ?_⟩
    refine hA ν9 a _ _ _ _ R9 (fun cs' b' hh => by rw [hs] at hh; cases hh) (fun q' hh => ⟨by omega, by omega⟩) (fun ν' x N' cs' b' hh => by rw [hs] at hh; cases hh) (fun ν' q' hh f' o' d' => ?_)
    rw [hs] at hh
    cases hh
    exact hE ν' _ hsp (x9.r.trans f') (o9.trans o') d'
  | inl cb =>
    obtain ⟨cs1, b1⟩ := cb
    obtain ⟨⟨v1, v2⟩, v3⟩ := hv _ cs1 b1 ha hs
    have hsp : pB (sp a) (fun cs b => chL sp opM t e (e + 1 - b) cs b) = chL sp opM t e (e + 1 - b1) cs1 b1 := by rw [hs]; rfl
    have hkk : 60 * (b1 - a) + 7 ≤ k + bc ∧ 400 * (b1 - a) + 47 ≤ n + bs := by
      cases hw : chL sp opM t e (e + 1 - b1) cs1 b1 with
      | inl cb =>
        obtain ⟨cs', b'⟩ := cb
        have h1 := hb1 cs' b' (hsp.trans hw)
        have h2 := chL_adv (by decide) hv _ cs1 b1 cs' b' v3 hw
        omega
      | inr q =>
        have h1 := hb2 q (hsp.trans hw)
        omega
    refine ⟨60 * (b1 - a) - bc, 400 * (b1 - a) - bs, k - 5 - (60 * (b1 - a) - bc), n - 27 - (400 * (b1 - a) - bs), by omega, by omega, ?_⟩
    refine hA ν9 a _ _ _ _ R9 (fun cs' b' hh => ?_) (fun q' hh => by rw [hs] at hh; cases hh) (fun ν' x N' cs' b' hh f' o' T' V' z' => ?_) (fun ν' q' hh => by rw [hs] at hh; cases hh)
    · rw [hs] at hh
      cases hh
      omega
    · rw [hs] at hh
      cases hh
      have g4 := hC9.2.2.2.1
      have g5 := hC9.2.2.2.2
      have kq : rk ν'.2 q1 = 12 := by rw [(o' q1 (by rw [hC9.1]; decide)).1]; exact hC9.1
      have hlst : ∀ y, LSt ν9.2 la y → rk ν9.2 y ≠ 0 := fun y hy => by rcases LSt.k g4 hy with v | v <;> rw [v] <;> decide
      have hbst : ∀ y, BSt ν9.2 lb y → rk ν9.2 y ≠ 0 := fun y hy => by rcases BSt.k g5 hy with v | v <;> rw [v] <;> decide
      have C' : ChR ν'.2 q1 la lb [] [] 2 16 := by
        have eq := o' q1 (by rw [hC9.1]; decide)
        refine ⟨kq, by rw [eq.2.2.2.2]; exact hC9.2.1, by rw [eq.2.2.2.2]; exact hC9.2.2.1, g4.mv (fun y hy => o' y (hlst y hy)) (fun y hy => by cases hy), g5.mv (fun y hy => o' y (hbst y hy))⟩
      have S' : ∀ y, ChS ν'.2 la lb y → ChS ν9.2 la lb y := by
        intro y hy
        rcases hy with (z | z) | (z | z)
        · exact Or.inl (Or.inl z)
        · rw [(o' la (hlst la (Or.inl rfl))).2.2.2.2] at z; exact Or.inl (Or.inr z)
        · exact Or.inr (Or.inl z)
        · rw [(o' lb (hbst lb (Or.inl rfl))).2.2.2.2] at z; exact Or.inr (Or.inr z)
      have xc : 1 ≤ rc ν'.2 x ∧ rc ν'.2 x < 23 := by have := VT.isV V'.v; omega
      refine ⟨rcO kq (by decide), 2, 0, k - 5 - (60 * (b1 - a) - bc) - 2, n - 27 - (400 * (b1 - a) - bs), by omega, by omega, ?_⟩
      refine xl_chAdd (s := 42) C' rfl (by decide) (by decide) xc (by decide) (by decide) (fun ν4 e4 C4 c4 z4 => ?_)
      have f4 : XTt ν'.1 ν4.1 := by rw [e4]; exact XTt.refl _
      have new' : ∀ y, ChS ν'.2 la lb y → rk ν.2 y = 0 := fun y hy => zz9 y (S' y hy)
      have o4 : Old ν.2 ν4.2 := (o9.trans o').chg c4 new'
      have hx4 : XTt ν.1 ν4.1 := (x9.trans f').trans f4
      have T4 : Tk ν4.1 t e b1 := by rw [e4]; exact T'
      have R4 : Rd ν4 t e b1 r cx b0 := hR.mv hx4 o4 T4
      have nN' : ∀ y, N' y → rk ν'.2 y ≠ 0 ∧ ¬ ChS ν'.2 la lb y := fun y hy => ⟨V'.1 y hy, fun w => by
        have h1 : rk ν9.2 y = 0 := z' y hy
        rcases S' y w with v | v
        · exact hlst y v h1
        · exact hbst y v h1⟩
      have sN' : Sme N' ν'.2 ν4.2 := c4.sme nN'
      unfold xw_X2_product_20
      intro X hX
      refine loop X hX (e + 1 - b1) b1 cs1 [] [] cs1 x 42 2 16 N' ν4 _ _ (Nat.le_refl _) v1 (by simp; omega) R4 hx4 C4 ⟨fun y hy => ?_, fun ρ' hs' => ⟨V'.2 ρ' (fun y hy => (sN' y hy).trans (hs' y hy)), rfl⟩, fun y hy => (by cases hy), hq1, fun y hy => ?_, o4⟩ rfl (fun cs' b' hh => ?_) (fun q' hh => ?_)
      · have h1 : rk ν9.2 y = 0 := z' y hy
        refine ⟨by rw [(c4.1 y (nN' y hy).1).1]; exact (nN' y hy).1, fun u => ?_, (fun u => by rw [u, hC9.1] at h1; cases h1), o9.z h1⟩
        rcases z4 y u with v | v
        · exact (nN' y hy).2 v
        · exact (nN' y hy).1 v
      · rcases z4 y hy with v | v
        · exact new' y v
        · exact (o9.trans o').z v
      · obtain ⟨w2, w3⟩ := hb1 cs' b' (hsp.trans hh)
        have h2 := chL_adv (by decide) hv _ cs1 b1 cs' b' v3 hh
        have : chB 1 2 16 = 20 := rfl
        exact ⟨hsp.trans hh, by omega, by show _ + chB 1 2 16 ≤ _; omega⟩
      · obtain ⟨w2, w3⟩ := hb2 q' (hsp.trans hh)
        have : chB 1 2 16 = 20 := rfl
        exact ⟨hsp.trans hh, by omega, by show _ + chB 1 2 16 ≤ _; omega⟩
theorem xl_sumV {al : Nat → Bool} {b0 d e r cx bc bs gc gs : Nat} {t : Nat → Nat} {sp : Nat → PR (List Nat)} {AT : XN → Nat → Nat → (Nat → XN → Prop) → (XN → Prop) → Prop} (hA : ElL al b0 d t e r cx bc bs gc gs sp (xw_X2_product AT)) (hv : adv e sp) (hbc : 7 ≤ bc ∧ bc ≤ 20) (hbs : 47 ≤ bs ∧ bs ≤ 150) (hgc : 40 ≤ gc) (hgs : 200 ≤ gs) : ElL al b0 (d + 1) t e r cx (bc - 7) (bs - 47) (gc + 7) (gs + 47) (fun a => pB (sp a) (fun cs b => chL sp opA t e (e + 1 - b) cs b)) (xw_X2_sum AT) := by
  intro ν a k n Q E hR hb1 hb2 hQ hE
  have hT := hR.1
  have ha : a ≤ e := hT.2.2.2.1
  have he : e ≤ 1600 := hT.2.2.1
  have hkn : 40 ≤ k ∧ 200 ≤ n := by
    cases hw : pB (sp a) (fun cs b => chL sp opA t e (e + 1 - b) cs b) with
    | inl cb =>
      obtain ⟨cs, b⟩ := cb
      have h1 := hb1 cs b hw
      have h2 := ((adv_sumG hv) a cs b ha hw).1.1
      omega
    | inr q =>
      have h1 := hb2 q hw
      omega
  unfold xw_X2_sum
  refine ⟨k - 1, n - 2, by omega, by omega, fun q1 hq1 ν3 e3 => ⟨4, 25, k - 5, n - 27, by omega, by omega, ?_⟩⟩
  have k3 : rk ν3.2 q1 = 12 := by rw [e3]; show rk (tN ν.2 q1 12 0) q1 = 12; rw [rk_tN, if_pos rfl]
  have f3 : ν3.1 = ν.1 := by rw [e3]
  have c3 : Chg (fun a => a = q1) ν.2 ν3.2 := by rw [e3]; exact Chg.tN _ _ _ hq1
  clear e3
  refine xl_chNew k3 (by omega) (by omega) (fun ν9 la lb e9 hC9 c9 z9 => ?_)
  have cc9 := c3.trans c9
  have o9 : Old ν.2 ν9.2 := (Old.refl _).chg cc9 (fun x hx => by rw [hx]; exact hq1)
  have f9 : ν9.1 = ν.1 := e9.trans f3
  have x9 : XTt ν.1 ν9.1 := by rw [f9]; exact XTt.refl _
  have R9 : Rd ν9 t e a r cx b0 := hR.mv x9 o9 (by rw [f9]; exact hT)
  have zz9 : ∀ x, ChS ν9.2 la lb x → rk ν.2 x = 0 := fun x hx => (Old.refl ν.2).chg c3 (fun y hy => by rw [hy]; exact hq1) |>.z (z9 x hx)
  -- the loop
  have loop : ∀ (X : Nat → Int32 → XN → Nat → Nat → Prop), (∀ (x1 : Nat) (x2 : Int32) (ν : XN) (k n : Nat), ((x2 = 0 → Q x1 ν) ∧ (¬ x2 = 0 → (xw_X2_takes (43 : Int32) ν (fun r33 ν32 => ((r33 = 0 → (xw_X2_takes (45 : Int32) ν32 (fun r35 ν34 => ((r35 = 0 → X x1 0 ν34 k n) ∧ (¬ r35 = 0 → (∃ k38 n39 k40 n41, k38 + k40 ≤ k ∧ n39 + n41 ≤ n ∧ xw_X2_product AT ν34 k38 n39 (fun r37 ν36 => (rc ν36.2 x1 = 12 ∧ (∃ k46 n47 k48 n49, k46 + k48 ≤ k40 ∧ n47 + n49 ≤ n41 ∧ xw_X11_add x1 (45 : Int32) r37 ν36 k46 n47 (fun ν44 => X x1 x2 ν44 k48 n49)))) E)))))) ∧ (¬ r33 = 0 → (∃ k54 n55 k56 n57, k54 + k56 ≤ k ∧ n55 + n57 ≤ n ∧ xw_X2_product AT ν32 k54 n55 (fun r53 ν52 => (rc ν52.2 x1 = 12 ∧ (∃ k62 n63 k64 n65, k62 + k64 ≤ k56 ∧ n63 + n65 ≤ n57 ∧ xw_X11_add x1 (43 : Int32) r53 ν52 k62 n63 (fun ν60 => X x1 x2 ν60 k64 n65)))) E))))))) → X x1 x2 ν k n) →
      ∀ (f a1 : Nat) (cs as sg c0 : List Nat) (b s c cB : Nat) (N : Nat → Prop) (ν1 : XN) (k1 n1 : Nat), e + 1 - a1 ≤ f → a < a1 → as.length + 1 ≤ a1 - a → Rd ν1 t e a1 r cx b0 → XTt ν.1 ν1.1 → ChR ν1.2 q1 la lb (b :: as) (s :: sg) c cB → ChI al b0 d ν.2 N ν1.2 q1 la lb b as sg c0 cs → as.length = sg.length → (∀ cs' b', chL sp opA t e f cs a1 = .inl (cs', b') → pB (sp a) (fun cs b => chL sp opA t e (e + 1 - b) cs b) = .inl (cs', b') ∧ 60 * (b' - a1) ≤ k1 ∧ 400 * (b' - a1) + chB (as.length + 1) c cB ≤ n1) → (∀ q, chL sp opA t e f cs a1 = .inr q → pB (sp a) (fun cs b => chL sp opA t e (e + 1 - b) cs b) = .inr q ∧ 60 * (e - a1) + gc ≤ k1 ∧ 400 * (e - a1) + gs + chB (as.length + 1) c cB ≤ n1) → X q1 (nI 1) ν1 k1 n1 := by
    intro X hX f
    induction f with
    | zero =>
      intro a1 cs as sg c0 b s c cB N ν1 k1 n1 hf _ _ hR1 _ _ _ _ _ _
      have := hR1.1.2.2.2.1
      omega
    | succ f ih =>
      intro a1 cs as sg c0 b s c cB N ν1 k1 n1 hf haa hlen hR1 hx1 hC hI hl hy hn
      have hT1 := hR1.1
      have ha1 : a1 ≤ e := hT1.2.2.2.1
      obtain ⟨l1, l2, l3, l4⟩ := lk_spec (t := t) ha1
      simp only [chL] at hy hn
      obtain ⟨i1, i2, i3, i4, i5, i6⟩ := hI
      have g4 := hC.2.2.2.1
      have g5 := hC.2.2.2.2
      have hlc := g4.2.2.2
      have hbc' := g5.2.2.2.2
      simp only [List.length_cons] at hlc hbc'
      -- a sign, and a part behind it
      have elem : ∀ (sn : Nat) (ν2 : XN), sn < 128 → sgO sn ≠ 0 → opA (bt t e (lk t e a1)) = sgO sn → lk t e a1 < e → XTt ν1.1 ν2.1 → ν2.2 = ν1.2 → Tk ν2.1 t e (lk t e a1 + 1) → (∃ k38 n39 k40 n41, k38 + k40 ≤ k1 ∧ n39 + n41 ≤ n1 ∧ xw_X2_product AT ν2 k38 n39 (fun r37 ν36 => (rc ν36.2 q1 = 12 ∧ (∃ k46 n47 k48 n49, k46 + k48 ≤ k40 ∧ n47 + n49 ≤ n41 ∧ xw_X11_add q1 (nI sn) r37 ν36 k46 n47 (fun ν44 => X q1 (nI 1) ν44 k48 n49)))) E) := by
        intro sn ν2 hsn hsg hop hlt f2 e2 T2
        rw [if_neg (by rw [hop]; exact hsg), hop] at hy hn
        have hR2 : Rd ν2 t e (lk t e a1 + 1) r cx b0 := hR1.mv f2 (Old.eq e2) T2
        cases hs2 : sp (lk t e a1 + 1) with
        | inr q2 =>
          rw [hs2] at hn
          obtain ⟨w1, w2, w3⟩ := hn q2 rfl
          refine ⟨k1, n1, 0, 0, by omega, by omega, ?_⟩
          refine hA ν2 _ k1 n1 _ _ hR2 (fun cs' b' hh => by rw [hs2] at hh; cases hh) (fun q' hh => ⟨by omega, by omega⟩) (fun ν' x N' cs' b' hh => by rw [hs2] at hh; cases hh) (fun ν' q' hh f' o' d' => ?_)
          rw [hs2] at hh
          cases hh
          exact hE ν' _ w1 (hx1.r.trans (f2.r.trans f')) (i6.trans ((Old.eq e2).trans o')) d'
        | inl cb =>
          obtain ⟨ds, b2⟩ := cb
          rw [hs2] at hy hn
          simp only [pB] at hy hn
          obtain ⟨⟨v1, v2⟩, v3⟩ := hv _ ds b2 (by omega) hs2
          have gk := grw_ok (c := c) (m := as.length + 1) (by omega) (by omega) (by omega)
          have gb := grB_ok (c := cB) (m := sg.length + 1) (by omega) (by omega) (by omega)
          have hcb : 4 * (grw c (as.length + 1) - c) + 2 * (grB cB (sg.length + 1) - cB) + chB (as.length + 1 + 1) (grw c (as.length + 1)) (grB cB (sg.length + 1)) ≤ chB (as.length + 1) c cB + 12 := by
            unfold chB; omega
          have hkk : 60 * (b2 - (lk t e a1 + 1)) + 2 ≤ k1 + bc ∧ 400 * (b2 - (lk t e a1 + 1)) + chB (as.length + 1) c cB + 12 ≤ n1 + bs := by
            cases hw : chL sp opA t e f (cs ++ ds ++ [sgO sn]) b2 with
            | inl cb =>
              obtain ⟨cs', b'⟩ := cb
              have h1 := hy cs' b' hw
              have h2 := chL_adv (by decide) hv f (cs ++ ds ++ [sgO sn]) b2 cs' b' v3 hw
              omega
            | inr q =>
              have h1 := hn q hw
              omega
          refine ⟨60 * (b2 - (lk t e a1 + 1)) - bc, 400 * (b2 - (lk t e a1 + 1)) - bs, k1 - (60 * (b2 - (lk t e a1 + 1)) - bc), n1 - (400 * (b2 - (lk t e a1 + 1)) - bs), by omega, by omega, ?_⟩
          refine hA ν2 _ _ _ _ _ hR2 (fun cs' b' hh => ?_) (fun q' hh => by rw [hs2] at hh; cases hh) (fun ν' x N' cs' b' hh f' o' T' V' z' => ?_) (fun ν' q' hh => by rw [hs2] at hh; cases hh)
          · rw [hs2] at hh
            cases hh
            omega
          · rw [hs2] at hh
            cases hh
            have o1' : Old ν1.2 ν'.2 := (Old.eq e2).trans o'
            have kq : rk ν'.2 q1 = 12 := by rw [(o1' q1 (by rw [hC.1]; decide)).1]; exact hC.1
            have hlst : ∀ y, LSt ν1.2 la y → rk ν1.2 y ≠ 0 := fun y hy => by rcases LSt.k g4 hy with v | v <;> rw [v] <;> decide
            have hbst : ∀ y, BSt ν1.2 lb y → rk ν1.2 y ≠ 0 := fun y hy => by rcases BSt.k g5 hy with v | v <;> rw [v] <;> decide
            have C' : ChR ν'.2 q1 la lb (b :: as) (s :: sg) c cB := by
              have eq := o1' q1 (by rw [hC.1]; decide)
              refine ⟨kq, by rw [eq.2.2.2.2]; exact hC.2.1, by rw [eq.2.2.2.2]; exact hC.2.2.1, g4.mv (fun y hy => o1' y (hlst y hy)) (fun y hy => (o1' y (rc_rk (by have := g4.2.2.2.2.2.2.2 y hy; omega))).1), g5.mv (fun y hy => o1' y (hbst y hy))⟩
            have S' : ∀ y, ChS ν'.2 la lb y → ChS ν1.2 la lb y := by
              intro y hy
              rcases hy with (z | z) | (z | z)
              · exact Or.inl (Or.inl z)
              · rw [(o1' la (hlst la (Or.inl rfl))).2.2.2.2] at z; exact Or.inl (Or.inr z)
              · exact Or.inr (Or.inl z)
              · rw [(o1' lb (hbst lb (Or.inl rfl))).2.2.2.2] at z; exact Or.inr (Or.inr z)
            have xc : 1 ≤ rc ν'.2 x ∧ rc ν'.2 x < 23 := by have := VT.isV V'.v; omega
            refine ⟨rcO kq (by decide), 2, 4 * (grw c (as.length + 1) - c) + 2 * (grB cB (sg.length + 1) - cB), k1 - (60 * (b2 - (lk t e a1 + 1)) - bc) - 2, n1 - (400 * (b2 - (lk t e a1 + 1)) - bs) - (4 * (grw c (as.length + 1) - c) + 2 * (grB cB (sg.length + 1) - cB)), by omega, by omega, ?_⟩
            refine xl_chAdd C' (by simp [hl]) (by simp only [List.length_cons]; omega) hsn xc (by omega) (by simp only [List.length_cons]; omega) (fun ν4 e4 C4 c4 z4 => ?_)
            have f4 : XTt ν'.1 ν4.1 := by rw [e4]; exact XTt.refl _
            have new' : ∀ y, ChS ν'.2 la lb y → rk ν.2 y = 0 := fun y hy => i5 y (S' y hy)
            have o4 : Old ν.2 ν4.2 := (i6.trans o1').chg c4 new'
            have hx4 : XTt ν.1 ν4.1 := ((hx1.trans f2).trans f').trans f4
            have T4 : Tk ν4.1 t e b2 := by rw [e4]; exact T'
            have ows : xWs ν4 := hR.2.2.2.1.old hx4.2.2.2.2.2 hx4.2.2.2.1 o4
            have R4 : Rd ν4 t e b2 r cx b0 := hR.mv hx4 o4 T4
            simp only [List.length_cons] at C4
            have nN : ∀ y, N y → rk ν'.2 y ≠ 0 ∧ ¬ ChS ν'.2 la lb y := fun y hy => ⟨by rw [(o1' y (i1 y hy).1).1]; exact (i1 y hy).1, fun w => (i1 y hy).2.1 (S' y w)⟩
            have nN' : ∀ y, N' y → rk ν'.2 y ≠ 0 ∧ ¬ ChS ν'.2 la lb y := fun y hy => ⟨V'.1 y hy, fun w => by
              have h1 : rk ν2.2 y = 0 := z' y hy
              rw [e2] at h1
              rcases S' y w with v | v
              · exact hlst y v h1
              · exact hbst y v h1⟩
            have sN : Sme N ν'.2 ν4.2 := c4.sme nN
            have sN' : Sme N' ν'.2 ν4.2 := c4.sme nN'
            have key := ih b2 (cs ++ ds ++ [sgO sn]) (as ++ [x]) (sg ++ [sn]) c0 b s (grw c (as.length + 1)) (grB cB (sg.length + 1)) (fun y => N y ∨ N' y) ν4 (k1 - (60 * (b2 - (lk t e a1 + 1)) - bc) - 2) (n1 - (400 * (b2 - (lk t e a1 + 1)) - bs) - (4 * (grw c (as.length + 1) - c) + 2 * (grB cB (sg.length + 1) - cB))) (by omega) (by omega) (by simp; omega) R4 hx4 C4 ?_ (by simp [hl]) (fun cs' b' hh => ?_) (fun q' hh => ?_)
            · exact key
            · refine ⟨fun y hy => ?_, fun ρ' hs => ?_, fun y hy => ?_, i4, fun y hy => ?_, o4⟩
              · rcases hy with w | w
                · refine ⟨by rw [(c4.1 y (nN y w).1).1]; exact (nN y w).1, fun u => ?_, (i1 y w).2.2.1, (i1 y w).2.2.2⟩
                  rcases z4 y u with v | v
                  · exact (nN y w).2 v
                  · exact (nN y w).1 v
                · have h1 : rk ν2.2 y = 0 := z' y w
                  rw [e2] at h1
                  refine ⟨by rw [(c4.1 y (nN' y w).1).1]; exact (nN' y w).1, fun u => ?_, (fun u => by rw [u, hC.1] at h1; cases h1), i6.z h1⟩
                  rcases z4 y u with v | v
                  · exact (nN' y w).2 v
                  · exact (nN' y w).1 v
              · obtain ⟨y1, y2⟩ := i2 ρ' (fun y hy => Eqa.trans (o1' y (i1 y hy).1) ((sN y hy).trans (hs y (Or.inl hy))))
                have y3 := V'.2 ρ' (fun y hy => (sN' y hy).trans (hs y (Or.inr hy)))
                refine ⟨y1, ?_⟩
                rw [List.map_append]
                exact jn.snoc y3 (by omega) (by have := sgO_lt sn; omega) y2
              · rcases List.mem_append.mp hy with w | w
                · exact i3 y w
                · simp at w; rw [w]; exact hsg
              · rcases z4 y hy with v | v
                · exact new' y v
                · exact (i6.trans o1').z v
            · obtain ⟨w1, w2, w3⟩ := hy cs' b' hh
              have h2 := chL_adv (by decide) hv f _ b2 cs' b' v3 hh
              refine ⟨w1, by omega, ?_⟩
              simp only [List.length_append, List.length_singleton]
              omega
            · obtain ⟨w1, w2, w3⟩ := hn q' hh
              refine ⟨w1, by omega, ?_⟩
              simp only [List.length_append, List.length_singleton]
              omega
      refine hX _ _ _ _ _ ⟨fun z => absurd z (by decide), fun _ => ?_⟩
      refine xl_takes (c := 43) hT1 (by decide) (fun ν2 hbt f2 e2 T2 => ⟨fun z => absurd z (by decide), fun _ => ?_⟩) (fun ν2 hbt f2 e2 T2 => ⟨fun _ => ?_, fun z => absurd rfl z⟩)
      · refine elem 43 ν2 (by decide) (by decide) (by rw [hbt]; rfl) ?_ f2 e2 T2
        have := T2.2.2.2.1; omega
      · refine xl_takes (c := 45) T2 (by decide) (fun ν3' hbt2 f3' e3' T3 => ⟨fun z => absurd z (by decide), fun _ => ?_⟩) (fun ν3' hbt2 f3' e3' T3 => ⟨fun _ => ?_, fun z => absurd rfl z⟩)
        · rw [lk_lk ha1] at hbt2 T3
          refine elem 45 ν3' (by decide) (by decide) (by rw [hbt2]; rfl) ?_ (f2.trans f3') (e3'.trans e2) T3
          have := T3.2.2.2.1; omega
        · rw [lk_lk ha1] at hbt2 T3
          refine hX _ _ _ _ _ ⟨fun _ => ?_, fun z => absurd rfl z⟩
          have hop : opA (bt t e (lk t e a1)) = 0 := by
            rcases opA_sg (bt t e (lk t e a1)) with w | w | w
            · exact w
            · exact absurd w.1 hbt
            · exact absurd w.1 hbt2
          rw [if_pos hop] at hy
          obtain ⟨w1, w2, w3⟩ := hy cs _ rfl
          have e13 : ν3'.2 = ν1.2 := e3'.trans e2
          obtain ⟨V, Z⟩ := ChI.v (c := c) (cB := cB) (s := s) ⟨i1, i2, i3, i4, i5, i6⟩ hC
          refine hQ ν3' q1 _ cs _ w1 ((hx1.trans f2).trans f3') (i6.trans (Old.eq e13)) T3 (by rw [e13]; exact V) Z
  cases hs : sp a with
  | inr q =>
    have hsp : pB (sp a) (fun cs b => chL sp opA t e (e + 1 - b) cs b) = .inr q := by rw [hs]; rfl
    obtain ⟨w1, w2⟩ := hb2 q hsp
    refine ⟨k - 5, n - 27, 0, 0, by omega, by omega, ?_⟩
    refine hA ν9 a _ _ _ _ R9 (fun cs' b' hh => by rw [hs] at hh; cases hh) (fun q' hh => ⟨by omega, by omega⟩) (fun ν' x N' cs' b' hh => by rw [hs] at hh; cases hh) (fun ν' q' hh f' o' d' => ?_)
    rw [hs] at hh
    cases hh
    exact hE ν' _ hsp (x9.r.trans f') (o9.trans o') d'
  | inl cb =>
    obtain ⟨cs1, b1⟩ := cb
    obtain ⟨⟨v1, v2⟩, v3⟩ := hv _ cs1 b1 ha hs
    have hsp : pB (sp a) (fun cs b => chL sp opA t e (e + 1 - b) cs b) = chL sp opA t e (e + 1 - b1) cs1 b1 := by rw [hs]; rfl
    have hkk : 60 * (b1 - a) + 7 ≤ k + bc ∧ 400 * (b1 - a) + 47 ≤ n + bs := by
      cases hw : chL sp opA t e (e + 1 - b1) cs1 b1 with
      | inl cb =>
        obtain ⟨cs', b'⟩ := cb
        have h1 := hb1 cs' b' (hsp.trans hw)
        have h2 := chL_adv (by decide) hv _ cs1 b1 cs' b' v3 hw
        omega
      | inr q =>
        have h1 := hb2 q (hsp.trans hw)
        omega
    refine ⟨60 * (b1 - a) - bc, 400 * (b1 - a) - bs, k - 5 - (60 * (b1 - a) - bc), n - 27 - (400 * (b1 - a) - bs), by omega, by omega, ?_⟩
    refine hA ν9 a _ _ _ _ R9 (fun cs' b' hh => ?_) (fun q' hh => by rw [hs] at hh; cases hh) (fun ν' x N' cs' b' hh f' o' T' V' z' => ?_) (fun ν' q' hh => by rw [hs] at hh; cases hh)
    · rw [hs] at hh
      cases hh
      omega
    · rw [hs] at hh
      cases hh
      have g4 := hC9.2.2.2.1
      have g5 := hC9.2.2.2.2
      have kq : rk ν'.2 q1 = 12 := by rw [(o' q1 (by rw [hC9.1]; decide)).1]; exact hC9.1
      have hlst : ∀ y, LSt ν9.2 la y → rk ν9.2 y ≠ 0 := fun y hy => by rcases LSt.k g4 hy with v | v <;> rw [v] <;> decide
      have hbst : ∀ y, BSt ν9.2 lb y → rk ν9.2 y ≠ 0 := fun y hy => by rcases BSt.k g5 hy with v | v <;> rw [v] <;> decide
      have C' : ChR ν'.2 q1 la lb [] [] 2 16 := by
        have eq := o' q1 (by rw [hC9.1]; decide)
        refine ⟨kq, by rw [eq.2.2.2.2]; exact hC9.2.1, by rw [eq.2.2.2.2]; exact hC9.2.2.1, g4.mv (fun y hy => o' y (hlst y hy)) (fun y hy => by cases hy), g5.mv (fun y hy => o' y (hbst y hy))⟩
      have S' : ∀ y, ChS ν'.2 la lb y → ChS ν9.2 la lb y := by
        intro y hy
        rcases hy with (z | z) | (z | z)
        · exact Or.inl (Or.inl z)
        · rw [(o' la (hlst la (Or.inl rfl))).2.2.2.2] at z; exact Or.inl (Or.inr z)
        · exact Or.inr (Or.inl z)
        · rw [(o' lb (hbst lb (Or.inl rfl))).2.2.2.2] at z; exact Or.inr (Or.inr z)
      have xc : 1 ≤ rc ν'.2 x ∧ rc ν'.2 x < 23 := by have := VT.isV V'.v; omega
      refine ⟨rcO kq (by decide), 2, 0, k - 5 - (60 * (b1 - a) - bc) - 2, n - 27 - (400 * (b1 - a) - bs), by omega, by omega, ?_⟩
      refine xl_chAdd (s := 43) C' rfl (by decide) (by decide) xc (by decide) (by decide) (fun ν4 e4 C4 c4 z4 => ?_)
      have f4 : XTt ν'.1 ν4.1 := by rw [e4]; exact XTt.refl _
      have new' : ∀ y, ChS ν'.2 la lb y → rk ν.2 y = 0 := fun y hy => zz9 y (S' y hy)
      have o4 : Old ν.2 ν4.2 := (o9.trans o').chg c4 new'
      have hx4 : XTt ν.1 ν4.1 := (x9.trans f').trans f4
      have T4 : Tk ν4.1 t e b1 := by rw [e4]; exact T'
      have R4 : Rd ν4 t e b1 r cx b0 := hR.mv hx4 o4 T4
      have nN' : ∀ y, N' y → rk ν'.2 y ≠ 0 ∧ ¬ ChS ν'.2 la lb y := fun y hy => ⟨V'.1 y hy, fun w => by
        have h1 : rk ν9.2 y = 0 := z' y hy
        rcases S' y w with v | v
        · exact hlst y v h1
        · exact hbst y v h1⟩
      have sN' : Sme N' ν'.2 ν4.2 := c4.sme nN'
      unfold xw_X2_sum_20
      intro X hX
      refine loop X hX (e + 1 - b1) b1 cs1 [] [] cs1 x 43 2 16 N' ν4 _ _ (Nat.le_refl _) v1 (by simp; omega) R4 hx4 C4 ⟨fun y hy => ?_, fun ρ' hs' => ⟨V'.2 ρ' (fun y hy => (sN' y hy).trans (hs' y hy)), rfl⟩, fun y hy => (by cases hy), hq1, fun y hy => ?_, o4⟩ rfl (fun cs' b' hh => ?_) (fun q' hh => ?_)
      · have h1 : rk ν9.2 y = 0 := z' y hy
        refine ⟨by rw [(c4.1 y (nN' y hy).1).1]; exact (nN' y hy).1, fun u => ?_, (fun u => by rw [u, hC9.1] at h1; cases h1), o9.z h1⟩
        rcases z4 y u with v | v
        · exact (nN' y hy).2 v
        · exact (nN' y hy).1 v
      · rcases z4 y hy with v | v
        · exact new' y v
        · exact (o9.trans o').z v
      · obtain ⟨w2, w3⟩ := hb1 cs' b' (hsp.trans hh)
        have h2 := chL_adv (by decide) hv _ cs1 b1 cs' b' v3 hh
        have : chB 1 2 16 = 20 := rfl
        exact ⟨hsp.trans hh, by omega, by show _ + chB 1 2 16 ≤ _; omega⟩
      · obtain ⟨w2, w3⟩ := hb2 q' (hsp.trans hh)
        have : chB 1 2 16 = 20 := rfl
        exact ⟨hsp.trans hh, by omega, by show _ + chB 1 2 16 ≤ _; omega⟩

