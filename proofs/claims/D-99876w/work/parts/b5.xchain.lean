/-! THE SYSTEM: what a reading makes; chains -/
/-- an opening -/
theorem xl_opens {ν : XN} {r q : Nat} {Q E : XN → Prop} (ho : fI ν.1 1 4 = nI (6 - r)) (hr : r ≤ 6) (hQ : ∀ ν', 0 < r → ν'.1 = sI ν.1 1 4 (nI (6 - (r - 1))) → ν'.2 = ν.2 → Q ν') (hE : ∀ ν', r = 0 → XTt ν.1 ν'.1 → ν'.2 = ν.2 → Bd2 ν'.1 (4, q) → E ν') : xw_X2_opens (nI q) ν Q E := by
  unfold xw_X2_opens
  rw [ho, i_6, nI_eq (by omega) (by omega)]
  refine ⟨fun z => ?_, fun z => xl_wrong (fun ν' f g d => hE ν' (by omega) f g d)⟩
  intro ν1 e1
  subst e1
  refine hQ _ (by omega) ?_ rfl
  show sI ν.1 1 4 (nI (6 - r) + 1) = _
  rw [nI_1, show 6 - r + 1 = 6 - (r - 1) by omega]
/-- semantic footprints -/
def Sme (N : Nat → Prop) (ρ ρ' : RS) : Prop := ∀ x, N x → Eqa ρ ρ' x
theorem Sme.trans {N : Nat → Prop} {ρ ρ' ρ'' : RS} (h : Sme N ρ ρ') (g : Sme N ρ' ρ'') : Sme N ρ ρ'' := fun x hx => (h x hx).trans (g x hx)
/-- a tree made, and all that it takes -/
def VTs (al : Nat → Bool) (b0 d : Nat) (N : Nat → Prop) (ρ : RS) (a : Nat) (cs : List Nat) : Prop := (∀ x, N x → rk ρ x ≠ 0) ∧ ∀ ρ', Sme N ρ ρ' → (VT al b0 ρ' d).1 a cs
def TTs (al : Nat → Bool) (b0 d : Nat) (N : Nat → Prop) (ρ : RS) (a : Nat) (cs : List Nat) : Prop := (∀ x, N x → rk ρ x ≠ 0) ∧ ∀ ρ', Sme N ρ ρ' → (VT al b0 ρ' d).2 a cs
theorem VTs.mv {al : Nat → Bool} {b0 d a : Nat} {N : Nat → Prop} {ρ ρ' : RS} {cs : List Nat} (h : VTs al b0 d N ρ a cs) (g : Sme N ρ ρ') : VTs al b0 d N ρ' a cs := ⟨fun x hx => by rw [(g x hx).1]; exact h.1 x hx, fun ρ'' g' => h.2 ρ'' (g.trans g')⟩
theorem TTs.mv {al : Nat → Bool} {b0 d a : Nat} {N : Nat → Prop} {ρ ρ' : RS} {cs : List Nat} (h : TTs al b0 d N ρ a cs) (g : Sme N ρ ρ') : TTs al b0 d N ρ' a cs := ⟨fun x hx => by rw [(g x hx).1]; exact h.1 x hx, fun ρ'' g' => h.2 ρ'' (g.trans g')⟩
theorem Eqa.refl' (N : Nat → Prop) (ρ : RS) : Sme N ρ ρ := fun _ _ => Eqa.refl _ _
theorem VTs.v {al : Nat → Bool} {b0 d a : Nat} {N : Nat → Prop} {ρ : RS} {cs : List Nat} (h : VTs al b0 d N ρ a cs) : (VT al b0 ρ d).1 a cs := h.2 ρ (Eqa.refl' N ρ)
theorem TTs.v {al : Nat → Bool} {b0 d a : Nat} {N : Nat → Prop} {ρ : RS} {cs : List Nat} (h : TTs al b0 d N ρ a cs) : (VT al b0 ρ d).2 a cs := h.2 ρ (Eqa.refl' N ρ)
theorem Chg.sme {S N : Nat → Prop} {ρ ρ' : RS} (h : Chg S ρ ρ') (hN : ∀ x, N x → rk ρ x ≠ 0 ∧ ¬ S x) : Sme N ρ ρ' := fun x hx => h.2 x (hN x hx).1 (hN x hx).2
theorem jn.snoc {R : Nat → List Nat → Prop} {a o : Nat} {c : List Nat} (hr : R a c) (h1 : 1 ≤ o) (h2 : o < 12) : ∀ {as os cs ds : List Nat}, jn R as os cs ds → jn R (as ++ [a]) (os ++ [o]) cs (ds ++ c ++ [o])
  | [], [], cs, ds, h => ⟨c, hr, h1, h2, by rw [show ds = cs from h]; rfl⟩
  | b :: as, p :: os, cs, ds, ⟨c', r', p1, p2, h⟩ => ⟨c', r', p1, p2, jn.snoc hr h1 h2 h⟩
  | [], _ :: _, _, _, h => h.elim
  | _ :: _, [], _, _, h => h.elim
/-- a chain as it is made: its list, its signs -/
def ChR (ρ : RS) (q la lb : Nat) (as sg : List Nat) (c cB : Nat) : Prop := rk ρ q = 12 ∧ rO ρ q 0 = some la ∧ rO ρ q 1 = some lb ∧ LC ρ la as c ∧ BC ρ lb sg cB
/-- addresses of a chain itself -/
def ChS (ρ : RS) (la lb a : Nat) : Prop := LSt ρ la a ∨ BSt ρ lb a
def chB (m c cB : Nat) : Nat := (8 * m + 8 - 4 * c) + (4 * m + 40 - 2 * cB)
theorem LC.mv {ρ ρ' : RS} {la c : Nat} {as : List Nat} (h : LC ρ la as c) (g : Sme (LSt ρ la) ρ ρ') (hx : ∀ x ∈ as, rk ρ' x = rk ρ x) : LC ρ' la as c := by
  obtain ⟨h1, h2, ⟨ea, h3, h4, h5, h6⟩, h7⟩ := h
  have e1 := g la (Or.inl rfl)
  have e2 := g ea (Or.inr h3)
  refine ⟨by rw [e1.1]; exact h1, by rw [e1.2.2.1]; exact h2, ⟨ea, by rw [e1.2.2.2.2]; exact h3, by rw [e2.1]; exact h4, by rw [e2.2.1]; exact h5, fun k x hk => by rw [e2.2.2.2.2]; exact h6 k x hk⟩, h7.1, h7.2.1, h7.2.2.1, h7.2.2.2.1, fun x hm => ?_⟩
  have := h7.2.2.2.2 x hm
  unfold rc at this ⊢
  rw [hx x hm]; exact this
theorem BC.mv {ρ ρ' : RS} {lb c : Nat} {w : List Nat} (h : BC ρ lb w c) (g : Sme (BSt ρ lb) ρ ρ') : BC ρ' lb w c := by
  obtain ⟨h1, h2, h3, ⟨va, h4, h5, h6, h7⟩, h8⟩ := h
  have e1 := g lb (Or.inl rfl)
  have e2 := g va (Or.inr h4)
  exact ⟨by rw [e1.1]; exact h1, by rw [e1.2.2.1]; exact h2, by rw [e1.2.2.1]; exact h3, ⟨va, by rw [e1.2.2.2.2]; exact h4, by rw [e2.1]; exact h5, by rw [e2.2.1]; exact h6, fun k x hk => by rw [e2.2.2.1]; exact h7 k x hk⟩, h8⟩
theorem LSt.k {ρ : RS} {la c a : Nat} {as : List Nat} (h : LC ρ la as c) (g : LSt ρ la a) : rk ρ a = 7 ∨ rk ρ a = 109 := by
  obtain ⟨h1, -, ⟨ea, h3, h4, -⟩, -⟩ := h
  rcases g with z | z
  · left; rw [z]; exact h1
  · right
    rw [h3] at z
    cases z; exact h4
theorem BSt.k {ρ : RS} {lb c a : Nat} {w : List Nat} (h : BC ρ lb w c) (g : BSt ρ lb a) : rk ρ a = 17 ∨ rk ρ a = 102 := by
  obtain ⟨h1, -, -, ⟨va, h4, h5, -⟩, -⟩ := h
  rcases g with z | z
  · left; rw [z]; exact h1
  · right
    rw [h4] at z
    cases z; exact h5
/-- a part is added -/
theorem xl_chAdd {ν : XN} {q la lb s x c cB k n : Nat} {as sg : List Nat} {Q : XN → Prop} (h : ChR ν.2 q la lb as sg c cB) (hl : as.length = sg.length) (hm : as.length < 10000) (hs : s < 128) (hx : 1 ≤ rc ν.2 x ∧ rc ν.2 x < 23) (hk : 2 ≤ k) (hn : 4 * (grw c as.length - c) + 2 * (grB cB sg.length - cB) ≤ n)
    (hQ : ∀ ν', ν'.1 = ν.1 → ChR ν'.2 q la lb (as ++ [x]) (sg ++ [s]) (grw c as.length) (grB cB sg.length) → Chg (ChS ν.2 la lb) ν.2 ν'.2 → (∀ a, ChS ν'.2 la lb a → ChS ν.2 la lb a ∨ rk ν.2 a = 0) → Q ν') : xw_X11_add q (nI s) x ν k n Q := by
  obtain ⟨h1, h2, h3, h4, h5⟩ := h
  have r1 : rc ν.2 q = 12 := rcO h1 (by decide)
  have rb : rc ν.2 lb = 17 := rcO h5.1 (by decide)
  unfold xw_X11_add
  refine ⟨r1, lb, h3, rb, 1, 2 * (grB cB sg.length - cB), k - 1, n - 2 * (grB cB sg.length - cB), by omega, by omega, ?_⟩
  refine xl_sbAdd h5 hs (by omega) (by omega) (by omega) (fun ν1 e1 b1 c1 z1 => ?_)
  have kq : Eqa ν.2 ν1.2 q := c1.2 q (by rw [h1]; decide) (fun w => by rcases BSt.k h5 w with v | v <;> rw [h1] at v <;> cases v)
  have sL : Sme (LSt ν.2 la) ν.2 ν1.2 := fun a ha => c1.2 a (by rcases LSt.k h4 ha with v | v <;> rw [v] <;> decide) (fun w => by rcases BSt.k h5 w with v | v <;> rcases LSt.k h4 ha with u | u <;> rw [u] at v <;> cases v)
  have l1 : LC ν1.2 la as c := h4.mv sL (fun y hy => (c1.1 y (rc_rk (by have := h4.2.2.2.2.2.2.2 y hy; omega))).1)
  have x1 : 1 ≤ rc ν1.2 x ∧ rc ν1.2 x < 23 := by unfold rc; rw [(c1.1 x (rc_rk (by omega))).1]; exact hx
  refine ⟨rcO (by rw [kq.1]; exact h1) (by decide), la, by rw [kq.2.2.2.2]; exact h2, rcO l1.1 (by decide), k - 1, n - 2 * (grB cB sg.length - cB), 0, 0, by omega, by omega, ?_⟩
  refine xl_add l1 x1 hm (by omega) (by omega) (fun ν2 e2 l2 c2 z2 => ?_)
  have sB : Sme (BSt ν1.2 lb) ν1.2 ν2.2 := fun a ha => c2.2 a (by rcases BSt.k b1 ha with v | v <;> rw [v] <;> decide) (fun w => by rcases LSt.k l1 w with v | v <;> rcases BSt.k b1 ha with u | u <;> rw [u] at v <;> cases v)
  have kq2 : Eqa ν1.2 ν2.2 q := c2.2 q (by rw [kq.1, h1]; decide) (fun w => by rcases LSt.k l1 w with v | v <;> rw [kq.1, h1] at v <;> cases v)
  have kq3 := kq.trans kq2
  have lsE : ∀ a, LSt ν1.2 la a → LSt ν.2 la a := fun a ha => by
    rcases ha with z | z
    · exact Or.inl z
    · rw [(sL la (Or.inl rfl)).2.2.2.2] at z; exact Or.inr z
  have bsE : ∀ a, BSt ν2.2 lb a → BSt ν1.2 lb a := fun a ha => by
    rcases ha with z | z
    · exact Or.inl z
    · rw [(sB lb (Or.inl rfl)).2.2.2.2] at z; exact Or.inr z
  refine hQ ν2 (e2.trans e1) ⟨by rw [kq3.1]; exact h1, by rw [kq3.2.2.2.2]; exact h2, by rw [kq3.2.2.2.2]; exact h3, l2, b1.mv sB⟩ ((c1.wide (fun a _ ha => Or.inr ha)).trans2 c2 (fun a ha => Or.inl (Or.inl (lsE a ha)))) (fun a ha => ?_)
  rcases ha with w | w
  · rcases z2 a w with v | v
    · exact Or.inl (Or.inl (lsE a v))
    · right
      rcases Nat.eq_zero_or_pos (rk ν.2 a) with u | u
      · exact u
      · have := (c1.1 a (by omega)).1; omega
  · rcases z1 a (bsE a w) with v | v
    · exact Or.inl (Or.inr v)
    · exact Or.inr v
/-- a chain is begun -/
theorem xl_chNew {ν : XN} {q k n : Nat} {Q : XN → Prop} (hq : rk ν.2 q = 12) (hk : 4 ≤ k) (hn : 25 ≤ n)
    (hQ : ∀ ν' la lb, ν'.1 = ν.1 → ChR ν'.2 q la lb [] [] 2 16 → Chg (fun a => a = q) ν.2 ν'.2 → (∀ a, ChS ν'.2 la lb a → rk ν.2 a = 0) → Q ν') : xw_X11_init q ν k n Q := by
  unfold xw_X11_init xw_X10_init
  refine ⟨k - 1, n - 3, by omega, by omega, fun q2 hq2 ν4 e4 => ⟨1, 2, k - 2, n - 5, by omega, by omega, ?_⟩⟩
  subst e4
  have n1 : q ≠ q2 := fun z => by rw [z, hq2] at hq; cases hq
  unfold xw_J2_init xw_J1_init xw_J0_init
  refine ⟨by rw [rk_tN, if_pos rfl], ?_⟩
  intro ν2 e2
  subst e2
  refine ⟨fun z => absurd z (by decide), fun _ => ⟨by decide, by decide, 0, 0, by decide, by decide, fun q4 hq4 ν6 e6 => ?_⟩⟩
  subst e6
  have hq4' : rk (tN ν.2 q2 7 0) q4 = 0 := hq4
  have n2 : q2 ≠ q4 := fun z => by rw [← z, rk_tN, if_pos rfl] at hq4'; cases hq4'
  have z4 : rk ν.2 q4 = 0 := by rw [rk_tN, if_neg (fun z => n2 z.symm)] at hq4'; exact hq4'
  have n3 : q ≠ q4 := fun z => by rw [z, z4] at hq; cases hq
  refine ⟨by show rk (tN (tI (tN ν.2 q2 7 0) q2 0 0) q4 109 _) q2 = 7; rw [rk_tN, if_neg n2]; show rk (tN ν.2 q2 7 0) q2 = 7; rw [rk_tN, if_pos rfl], ?_⟩
  intro ν12 e12
  have k12 : rk ν12.2 q = 12 := by rw [e12]; show rk (tN (tI (tN ν.2 q2 7 0) q2 0 0) q4 109 _) q = 12; rw [rk_tN, if_neg n3]; show rk (tN ν.2 q2 7 0) q = 12; rw [rk_tN, if_neg n1]; exact hq
  have f12 : ν12.1 = ν.1 := by rw [e12]
  have l12 : LC ν12.2 q2 [] 2 := by
    rw [e12]
    refine ⟨by show rk (tN (tI (tN ν.2 q2 7 0) q2 0 0) q4 109 _) q2 = 7; rw [rk_tN, if_neg n2]; show rk (tN ν.2 q2 7 0) q2 = 7; rw [rk_tN, if_pos rfl], ?_, ⟨q4, by rw [rO_tO, if_pos ⟨rfl, rfl⟩], by show rk (tN (tI (tN ν.2 q2 7 0) q2 0 0) q4 109 _) q4 = 109; rw [rk_tN, if_pos rfl], by show rn (tN (tI (tN ν.2 q2 7 0) q2 0 0) q4 109 _) q4 = 2; rw [rn_tN, if_pos rfl]; rfl, fun i x hx => by simp at hx⟩, by decide, by decide, by decide, by decide, fun x hx => by cases hx⟩
    show rI (tN (tI (tN ν.2 q2 7 0) q2 0 0) q4 109 (Int32.toNatClampNeg 2)) q2 2 = _
    rw [rI_tN, if_neg n2, rI_tI, if_neg (by omega), rI_tN, if_pos rfl]; rfl
  have c12 : Chg (fun a => a = q) ν.2 ν12.2 := by
    rw [e12]
    refine (((Chg.tN (S := fun a => a = q) ν.2 7 0 hq2).trans2 (Chg.tI (S := fun a => a = q2) _ 0 0 rfl) (fun a ha => Or.inr (by rw [ha]; exact hq2))).trans (Chg.tN _ 109 _ hq4)).trans2 (Chg.tO (S := fun a => a = q2) _ _ _ rfl) (fun a ha => Or.inr (by rw [ha]; exact hq2))
  have s12 : ∀ a, LSt ν12.2 q2 a → rk ν.2 a = 0 := by
    intro a ha
    rcases ha with z | z
    · rw [z]; exact hq2
    · rw [e12] at z
      have z : rO (tO (tN (tI (tN ν.2 q2 7 0) q2 0 0) q4 109 _) q2 1 (some q4)) q2 1 = some a := z
      rw [rO_tO, if_pos ⟨rfl, rfl⟩] at z
      cases z; exact z4
  clear e12
  refine ⟨k12, ?_⟩
  intro ν17 e17
  have c17 : Chg (fun a => a = q) ν12.2 ν17.2 := by rw [e17]; exact Chg.tO _ _ _ rfl
  have k17 : rk ν17.2 q = 12 := by rw [e17]; exact k12
  have o17 : rO ν17.2 q 0 = some q2 := by rw [e17]; show rO (tO ν12.2 q 0 (some q2)) q 0 = _; rw [rO_tO, if_pos ⟨rfl, rfl⟩]
  have l17 : LC ν17.2 q2 [] 2 := l12.mv (c17.sme (fun x hx => ⟨by rcases LSt.k l12 hx with v | v <;> rw [v] <;> decide, fun w => by rcases LSt.k l12 hx with v | v <;> rw [w, k12] at v <;> cases v⟩)) (fun x hx => by cases hx)
  have f17 : ν17.1 = ν.1 := by rw [e17]; exact f12
  have s17 : ∀ a, LSt ν17.2 q2 a → rk ν.2 a = 0 := by
    intro a ha
    refine s12 a ?_
    rcases ha with z | z
    · exact Or.inl z
    · rw [e17] at z
      have z : rO (tO ν12.2 q 0 (some q2)) q2 1 = some a := z
      rw [rO_tO, if_neg (fun w => n1 w.1.symm)] at z
      exact Or.inr z
  have cc := c12.trans c17
  clear e17
  refine ⟨k - 3, n - 9, by omega, by omega, fun q20 hq20 ν22 e22 => ⟨k - 3, n - 9, 0, 0, by omega, by omega, ?_⟩⟩
  subst e22
  have n4 : q ≠ q20 := fun z => by rw [z, hq20] at k17; cases k17
  have z20 : rk ν.2 q20 = 0 := by
    rcases Nat.eq_zero_or_pos (rk ν.2 q20) with u | u
    · exact u
    · have := (cc.1 q20 (by omega)).1; omega
  unfold xw_J15_init xw_J14_init
  refine ⟨k - 3, n - 9, 0, 0, by omega, by omega, fun z => absurd z (by decide), fun _ => ⟨by decide, by decide, k - 4, n - 25, by omega, ?_, fun q17 hq17 ν19 e19 => ?_⟩⟩
  · have : Int32.toNatClampNeg 16 = 16 := rfl
    omega
  subst e19
  have hq17' : rk (tN ν17.2 q20 17 0) q17 = 0 := hq17
  have n5 : q20 ≠ q17 := fun z => by rw [← z, rk_tN, if_pos rfl] at hq17'; cases hq17'
  have z17' : rk ν17.2 q17 = 0 := by rw [rk_tN, if_neg (fun z => n5 z.symm)] at hq17'; exact hq17'
  have n6 : q ≠ q17 := fun z => by rw [z, z17'] at k17; cases k17
  have z17 : rk ν.2 q17 = 0 := by
    rcases Nat.eq_zero_or_pos (rk ν.2 q17) with u | u
    · exact u
    · have := (cc.1 q17 (by omega)).1; omega
  have kb : rk (tN (tN ν17.2 q20 17 0) q17 102 (Int32.toNatClampNeg 16)) q20 = 17 := by rw [rk_tN, if_neg n5, rk_tN, if_pos rfl]
  refine ⟨kb, ?_⟩
  intro ν25 e25
  subst e25
  refine ⟨kb, ?_⟩
  intro ν28 e28
  have c28 : Chg (fun a => a = q) ν17.2 ν28.2 := by
    rw [e28]
    exact ((((Chg.tN (S := fun a => a = q) ν17.2 17 0 hq20).trans (Chg.tN _ 102 _ hq17)).trans2 (Chg.tO (S := fun a => a = q20) _ _ _ rfl) (fun a ha => Or.inr (by rw [ha]; exact hq20))).trans2 (Chg.tI (S := fun a => a = q20) _ _ _ rfl) (fun a ha => Or.inr (by rw [ha]; exact hq20)))
  have b28 : BC ν28.2 q20 [] 16 := by
    rw [e28]
    refine ⟨kb, ?_, ?_, ⟨q17, by show rO (tO _ q20 0 (some q17)) q20 0 = _; rw [rO_tO, if_pos ⟨rfl, rfl⟩], by show rk (tN (tN ν17.2 q20 17 0) q17 102 _) q17 = _; rw [rk_tN, if_pos rfl], by show rn (tN (tN ν17.2 q20 17 0) q17 102 _) q17 = _; rw [rn_tN, if_pos rfl]; rfl, fun i x hx => by simp at hx⟩, by decide, by decide, by decide, by decide, fun x hx => by cases hx⟩
    · rw [rI_tI, if_pos ⟨rfl, rfl⟩]; rfl
    · rw [rI_tI, if_neg (by omega)]
      show rI (tN (tN ν17.2 q20 17 0) q17 102 (Int32.toNatClampNeg 16)) q20 3 = _
      rw [rI_tN, if_neg n5, rI_tN, if_pos rfl]; rfl
  have s28 : ∀ a, BSt ν28.2 q20 a → rk ν.2 a = 0 := by
    intro a ha
    rcases ha with z | z
    · rw [z]; exact z20
    · rw [e28] at z
      have z : rO (tO (tN (tN ν17.2 q20 17 0) q17 102 _) q20 0 (some q17)) q20 0 = some a := z
      rw [rO_tO, if_pos ⟨rfl, rfl⟩] at z
      cases z; exact z17
  have k28 : rk ν28.2 q = 12 := by rw [(c28.1 q (by rw [k17]; decide)).1]; exact k17
  have o28 : rO ν28.2 q 0 = some q2 := by
    rw [e28]
    show rO (tO (tN (tN ν17.2 q20 17 0) q17 102 (Int32.toNatClampNeg 16)) q20 0 (some q17)) q 0 = _
    rw [rO_tO, if_neg (fun w => n4 w.1), rO_tN, if_neg n6, rO_tN, if_neg n4]; exact o17
  have f28 : ν28.1 = ν.1 := by rw [e28]; exact f17
  have l28 : LC ν28.2 q2 [] 2 := l17.mv (c28.sme (fun x hx => ⟨by rcases LSt.k l17 hx with v | v <;> rw [v] <;> decide, fun w => by rcases LSt.k l17 hx with v | v <;> rw [w, k17] at v <;> cases v⟩)) (fun x hx => by cases hx)
  clear e28
  refine ⟨k28, ?_⟩
  intro ν35 e35
  have c35 : Chg (fun a => a = q) ν28.2 ν35.2 := by rw [e35]; exact Chg.tO _ _ _ rfl
  have l35 : LC ν35.2 q2 [] 2 := l28.mv (c35.sme (fun x hx => ⟨by rcases LSt.k l28 hx with v | v <;> rw [v] <;> decide, fun w => by rcases LSt.k l28 hx with v | v <;> rw [w, k28] at v <;> cases v⟩)) (fun x hx => by cases hx)
  have sB : Sme (BSt ν28.2 q20) ν28.2 ν35.2 := c35.sme (fun x hx => ⟨by rcases BSt.k b28 hx with v | v <;> rw [v] <;> decide, fun w => by rcases BSt.k b28 hx with v | v <;> rw [w, k28] at v <;> cases v⟩)
  have l2 : ∀ a, LSt ν35.2 q2 a → rk ν.2 a = 0 := by
    intro a ha
    have e28 : Eqa ν17.2 ν28.2 q2 := c28.2 q2 (by rw [l17.1]; decide) (fun w => n1 w.symm)
    have e35 : Eqa ν28.2 ν35.2 q2 := c35.2 q2 (by rw [l28.1]; decide) (fun w => n1 w.symm)
    refine s17 a ?_
    rcases ha with z | z
    · exact Or.inl z
    · rw [e35.2.2.2.2, e28.2.2.2.2] at z; exact Or.inr z
  refine hQ ν35 q2 q20 (by rw [e35]; exact f28) ⟨by rw [e35]; exact k28, by rw [e35]; show rO (tO ν28.2 q 1 (some q20)) q 0 = _; rw [rO_tO, if_neg (by omega)]; exact o28, by rw [e35]; show rO (tO ν28.2 q 1 (some q20)) q 1 = _; rw [rO_tO, if_pos ⟨rfl, rfl⟩], l35, b28.mv sB⟩ ((cc.trans c28).trans c35) (fun a ha => ?_)
  rcases ha with w | w
  · exact l2 a w
  · refine s28 a ?_
    rcases w with z | z
    · exact Or.inl z
    · rw [(sB q20 (Or.inl rfl)).2.2.2.2] at z; exact Or.inr z
