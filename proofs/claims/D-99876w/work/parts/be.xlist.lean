/-! THE SYSTEM: lists of a plain told -/
def LQp (ρ : RS) (la : Nat) (as : List Nat) (c : Nat) : Prop := rk ρ la = 7 ∧ rI ρ la 2 = nI as.length ∧ (∃ ea, rO ρ la 1 = some ea ∧ rk ρ ea = 109 ∧ rn ρ ea = c ∧ ∀ (k : Nat) x, as[k]? = some x → rO ρ ea k = some x) ∧ as.length ≤ c ∧ 2 ≤ c ∧ c ≤ 2 * as.length + 4 ∧ as.length < 20000 ∧ ∀ x ∈ as, 1 ≤ rc ρ x ∧ rc ρ x < 23
theorem LQp.rep {ρ : RS} {la c : Nat} {as : List Nat} (h : LQp ρ la as c) : LRep ρ la as := by
  obtain ⟨h1, h2, ⟨ea, h3, h4, h5, h6⟩, h7, h8, h9, h10, -⟩ := h
  exact ⟨rcO h1 (by decide), h2, ea, h3, rcO h4 (by decide), by omega, by omega, h6⟩
theorem grwP_ok {c m : Nat} (h1 : m ≤ c) (h2 : 2 ≤ c) (h3 : c ≤ 2 * m + 4) : m + 1 ≤ grw c m ∧ 2 ≤ grw c m ∧ grw c m ≤ 2 * (m + 1) + 4 ∧ c ≤ grw c m ∧ (m = c → grw c m ≤ 4 * (grw c m - c)) ∧ grw c m ≤ 2 * m + 6 := by
  unfold grw
  split <;> omega
theorem LQp.mv {ρ ρ' : RS} {la c : Nat} {as : List Nat} (h : LQp ρ la as c) (g : Sme (LSt ρ la) ρ ρ') (hx : ∀ x ∈ as, rk ρ' x = rk ρ x) : LQp ρ' la as c := by
  obtain ⟨h1, h2, ⟨ea, h3, h4, h5, h6⟩, h7⟩ := h
  have e1 := g la (Or.inl rfl)
  have e2 := g ea (Or.inr h3)
  refine ⟨by rw [e1.1]; exact h1, by rw [e1.2.2.1]; exact h2, ⟨ea, by rw [e1.2.2.2.2]; exact h3, by rw [e2.1]; exact h4, by rw [e2.2.1]; exact h5, fun k x hk => by rw [e2.2.2.2.2]; exact h6 k x hk⟩, h7.1, h7.2.1, h7.2.2.1, h7.2.2.2.1, fun x hm => ?_⟩
  have := h7.2.2.2.2 x hm
  unfold rc at this ⊢
  rw [hx x hm]; exact this
theorem LQp.k {ρ : RS} {la c a : Nat} {as : List Nat} (h : LQp ρ la as c) (g : LSt ρ la a) : rk ρ a = 7 ∨ rk ρ a = 109 := by
  obtain ⟨h1, -, ⟨ea, h3, h4, -⟩, -⟩ := h
  rcases g with z | z
  · left; rw [z]; exact h1
  · right
    rw [h3] at z
    cases z; exact h4
theorem xl_addP {ν : XN} {la x c k n : Nat} {as : List Nat} {Q : Int32 → XN → Prop} (h : LQp ν.2 la as c) (hx : 1 ≤ rc ν.2 x ∧ rc ν.2 x < 23) (hm : as.length < 10000) (hk : 1 ≤ k) (hn : 4 * (grw c as.length - c) ≤ n)
    (hQ : ∀ ν', ν'.1 = ν.1 → LQp ν'.2 la (as ++ [x]) (grw c as.length) → Chg (LSt ν.2 la) ν.2 ν'.2 → (∀ a, LSt ν'.2 la a → LSt ν.2 la a ∨ rk ν.2 a = 0) → Q (nI 1) ν') : xw_J2_add la x ν k n Q := by
  obtain ⟨h1, h2, ⟨ea, h3, h4, h5, h6⟩, h7, h8, h9, h10, h11⟩ := h
  have hne : ea ≠ la := fun z => by rw [z, h1] at h4; cases h4
  have r1 : rc ν.2 la = 7 := rcO h1 (by decide)
  obtain ⟨g1, g2, g3, g4, g5, g6⟩ := grwP_ok h7 h8 h9
  -- the end: an element is put
  have fin : ∀ (ν1 : XN) (ea1 c1 k1 n1 : Nat), ν1.1 = ν.1 → rk ν1.2 la = 7 → rO ν1.2 la 1 = some ea1 → rk ν1.2 ea1 = 109 → rn ν1.2 ea1 = c1 → c1 = grw c as.length → (∀ (k : Nat) y, as[k]? = some y → rO ν1.2 ea1 k = some y) → Chg (LSt ν.2 la) ν.2 ν1.2 → (ea1 = ea ∨ rk ν.2 ea1 = 0) → xw_J2_add_2_11 la x ea1 (nI as.length) ν1 k1 n1 (fun ν9 => Q (nI 1) ν9) := by
    intro ν1 ea1 c1 k1 n1 e1 a1 a2 a3 a4 a5 a6 a7 a8
    have hne1 : ea1 ≠ la := fun z => by rw [z, a1] at a3; cases a3
    have hxz : rk ν.2 x ≠ 0 := rc_rk (by omega)
    have hrc : ∀ y, rk ν.2 y ≠ 0 → rc ν1.2 y = rc ν.2 y := fun y hy => by unfold rc; rw [(a7.1 y hy).1]
    unfold xw_J2_add_2_11
    rw [nI_clamp (by omega)]
    refine ⟨a3, by rw [hrc x hxz]; exact hx, by rw [a4]; exact vp_in_nI (by omega) (by omega), ?_⟩
    intro ν2 e2
    subst e2
    refine ⟨a1, ?_⟩
    intro ν3 e3
    subst e3
    rw [nI_1]
    have hc2 : Chg (LSt ν.2 la) ν.2 (tI (tO ν1.2 ea1 as.length (some x)) la 2 (nI (as.length + 1))) := by
      refine (a7.trans2 (Chg.tO (S := fun a => a = ea1) ν1.2 as.length (some x) rfl) (fun a ha => ?_)).trans (Chg.tI _ _ _ (Or.inl rfl))
      rcases a8 with z | z
      · exact Or.inl (Or.inr (by rw [ha, z]; exact h3))
      · exact Or.inr (by rw [ha]; exact z)
    have o1 : rO (tI (tO ν1.2 ea1 as.length (some x)) la 2 (nI (as.length + 1))) la 1 = some ea1 := by
      show rO (tO ν1.2 ea1 as.length (some x)) la 1 = _
      rw [rO_tO, if_neg (fun q => hne1 q.1.symm)]; exact a2
    refine hQ _ e1 ⟨a1, ?_, ⟨ea1, o1, a3, by show rn ν1.2 ea1 = _; rw [a4, a5], fun k y hy => ?_⟩, by simp; omega, g2, by simp; omega, by simp; omega, fun y hy => ?_⟩ hc2 (fun a ha => ?_)
    · rw [rI_tI, if_pos ⟨rfl, rfl⟩]; simp
    · show rO (tO ν1.2 ea1 as.length (some x)) ea1 k = _
      rw [rO_tO]
      rcases Nat.lt_or_ge k as.length with w | w
      · rw [List.getElem?_append_left w] at hy
        rw [if_neg (by omega)]; exact a6 k y hy
      · rw [List.getElem?_append_right w] at hy
        have hz : k = as.length := by
          have := (List.getElem?_eq_some_iff.mp hy).1
          simp at this; omega
        subst hz
        simp at hy
        rw [if_pos ⟨rfl, rfl⟩, hy]
    · have hyz : rk ν.2 y ≠ 0 ∧ 1 ≤ rc ν.2 y ∧ rc ν.2 y < 23 := by
        rcases List.mem_append.mp hy with w | w
        · exact ⟨rc_rk (by have := h11 y w; omega), h11 y w⟩
        · simp at w; subst w; exact ⟨hxz, hx⟩
      show 1 ≤ rc ν1.2 y ∧ rc ν1.2 y < 23
      rw [hrc y hyz.1]; exact hyz.2
    · rcases ha with z | z
      · exact Or.inl (Or.inl z)
      · have z : rO (tI (tO ν1.2 ea1 as.length (some x)) la 2 (nI (as.length + 1))) la 1 = some a := z
        rw [o1] at z
        cases z
        rcases a8 with w | w
        · exact Or.inl (Or.inr (by rw [w]; exact h3))
        · exact Or.inr w
  unfold xw_J2_add
  refine ⟨r1, h1, ?_⟩
  intro ν1 e1
  subst e1
  have c1 : Chg (LSt ν.2 la) ν.2 (tI ν.2 la 0 (rI ν.2 la 0 + 1)) := Chg.tI _ _ _ (Or.inl rfl)
  refine ⟨r1, r1, ea, h3, r1, k, n, 0, 0, by omega, by omega, ?_⟩
  have i2 : rI (tI ν.2 la 0 (rI ν.2 la 0 + 1)) la 2 = nI as.length := by rw [rI_tI, if_neg (by omega)]; exact h2
  rw [i2]
  unfold xw_J2_add_2
  have eo : Int32.ofNat (rn (tI ν.2 la 0 (rI ν.2 la 0 + 1)) ea) = nI c := by show nI (rn ν.2 ea) = _; rw [h5]
  rw [eo, nI_eq (by omega) (by omega)]
  refine ⟨rcO h4 (by decide), fun z => ?_, fun z => ⟨r1, k, n, 0, 0, by omega, by omega, ?_⟩⟩
  · refine fin _ ea c _ _ rfl h1 h3 h4 h5 ?_ h6 c1 (Or.inl rfl)
    unfold grw; rw [if_neg z]
  · unfold xw_J2_grow
    refine ⟨r1, r1, k, n, 0, 0, by omega, by omega, ?_⟩
    rw [i2, nI_1]
    unfold xw_J2_grow_2
    refine ⟨r1, ea, h3, rcO h4 (by decide), ?_⟩
    rw [eo, i_0, nI_ltI (by omega) (by omega)]
    refine ⟨fun _ => ?_, fun w => by omega⟩
    unfold xw_J2_grow_2_20
    have e2 : nI (as.length + 1) - nI c = nI 1 := by rw [pk_sub (by omega)]; congr 1; omega
    have e3 : nI c >>> ((1 : Int32) &&& 31) = nI (c / 2) := by rw [i_1, i_31, and31 (by decide), pk_shrN (by omega) (nI 1) 1 (by decide)]
    rw [e2, e3]
    refine xl_newLen (by omega) (by omega) ⟨r1, ea, h3, k, n, 0, 0, by omega, by omega, ?_⟩
    have hgr : c + max 1 (c / 2) = grw c as.length := by unfold grw; rw [if_pos z]
    rw [hgr]
    have g5' := g5 z
    unfold xw_J13_copyOf
    refine ⟨rcO h4 (by decide), fun b2 hb2 => ⟨k, n, 0, 0, by omega, by omega, ?_⟩⟩
    unfold xw_J13_copyOf_2
    refine fun b1 hb1 => ⟨fun w => absurd (by rw [hb1] at hb2; cases hb2; rfl) w, fun _ => ?_⟩
    rw [i_0, nI_ltI (by omega) (by omega), nI_clamp (by omega)]
    refine ⟨by omega, by omega, 0, 0, by omega, by omega, fun q5 hq5 ν7 e7 => ?_⟩
    subst e7
    have hq0 : rk ν.2 q5 = 0 := hq5
    have qla : la ≠ q5 := fun w => by rw [← w, h1] at hq0; cases hq0
    have qea : ea ≠ q5 := fun w => by rw [← w, h4] at hq0; cases hq0
    unfold xw_J13_copyOf_2_24
    have k7 : ∀ y, y ≠ q5 → rk (tN (tI ν.2 la 0 (rI ν.2 la 0 + 1)) q5 109 (grw c as.length)) y = rk ν.2 y := fun y hy => by rw [rk_tN, if_neg hy]; rfl
    have kea : rk (tN (tI ν.2 la 0 (rI ν.2 la 0 + 1)) q5 109 (grw c as.length)) ea = 109 := by rw [k7 ea qea]; exact h4
    have kla : rk (tN (tI ν.2 la 0 (rI ν.2 la 0 + 1)) q5 109 (grw c as.length)) la = 7 := by rw [k7 la qla]; exact h1
    have nea : rn (tN (tI ν.2 la 0 (rI ν.2 la 0 + 1)) q5 109 (grw c as.length)) ea = c := by rw [rn_tN, if_neg qea]; exact h5
    have kq : rk (tN (tI ν.2 la 0 (rI ν.2 la 0 + 1)) q5 109 (grw c as.length)) q5 = 109 := by rw [rk_tN, if_pos rfl]
    have nq : rn (tN (tI ν.2 la 0 (rI ν.2 la 0 + 1)) q5 109 (grw c as.length)) q5 = grw c as.length := by rw [rn_tN, if_pos rfl]
    have oea : rO (tN (tI ν.2 la 0 (rI ν.2 la 0 + 1)) q5 109 (grw c as.length)) ea = rO ν.2 ea := by rw [rO_tN, if_neg qea]; rfl
    have ola : rO (tN (tI ν.2 la 0 (rI ν.2 la 0 + 1)) q5 109 (grw c as.length)) la = rO ν.2 la := by rw [rO_tN, if_neg qla]; rfl
    have c7 : Chg (LSt ν.2 la) ν.2 (tN (tI ν.2 la 0 (rI ν.2 la 0 + 1)) q5 109 (grw c as.length)) := c1.trans (Chg.tN _ _ _ hq5)
    generalize hρ7 : tN (tI ν.2 la 0 (rI ν.2 la 0 + 1)) q5 109 (grw c as.length) = ρ7 at *
    have en : Int32.ofNat (rn ρ7 ea) = nI c := by show nI (rn ρ7 ea) = _; rw [nea]
    refine ⟨rcO kea (by decide), ?_⟩
    show xw_J12_min (Int32.ofNat (rn ρ7 ea)) _ _ _
    rw [en]
    unfold xw_J12_min
    rw [nI_ltI (by omega) (by omega)]
    refine ⟨fun w => by omega, fun _ => ?_⟩
    simp only []
    rw [nI_clamp (by omega), show Int32.toNatClampNeg 0 = 0 from rfl, i_0, nI_ltI (by omega) (by omega)]
    refine ⟨rcO kea (by decide), kq, by omega, by rw [nea]; omega, by rw [nq]; omega, fun i hi v hv => ?_, ?_⟩
    · have hv : rO ρ7 ea (0 + i) = some v := hv
      rw [oea, Nat.zero_add] at hv
      have hx := List.getElem?_eq_getElem (show i < as.length by omega)
      rw [h6 i _ hx] at hv
      cases hv
      have hm := h11 _ (List.mem_of_getElem? hx)
      have : rc ρ7 as[i] = rc ν.2 as[i] := by unfold rc; rw [(c7.1 _ (rc_rk (by omega))).1]
      show 1 ≤ rc ρ7 as[i] ∧ rc ρ7 as[i] < 23
      rw [this]; exact hm
    · intro ν16 e16
      subst e16
      refine ⟨kla, ?_⟩
      intro ν38 e38
      subst e38
      refine fin _ q5 (grw c as.length) _ _ rfl kla (by rw [rO_tO, if_pos ⟨rfl, rfl⟩]) kq nq rfl (fun j y hy => ?_) ?_ (Or.inr hq0)
      · have hj := (List.getElem?_eq_some_iff.mp hy).1
        rw [rO_tO, if_neg (fun w => qla w.1.symm), rO_tOs, if_pos rfl, va_cpy0, if_pos (by omega)]
        show rO ρ7 ea j = _
        rw [oea]; exact h6 j y hy
      · refine (c7.trans2 (Chg.tOs (S := fun a => a = q5) _ _ rfl) (fun a ha => Or.inr (by rw [ha]; exact hq0))).trans (Chg.tO _ _ _ (Or.inl rfl))
/-- a list as it is made -/
theorem xl_lnew {ν : XN} {q c k n : Nat} {Q : XN → Prop} (hc : 2 ≤ c ∧ c ≤ 4) (hq : rk ν.2 q = 7) (hz : rI ν.2 q 2 = nI 0) (hk : 1 ≤ k) (hn : c ≤ n)
    (hQ : ∀ ν', ν'.1 = ν.1 → LQp ν'.2 q [] c → Chg (fun a => a = q) ν.2 ν'.2 → (∀ a, LSt ν'.2 q a → a = q ∨ rk ν.2 a = 0) → Q ν') : xw_J2_init q (nI c) ν k n Q := by
  unfold xw_J2_init xw_J1_init xw_J0_init
  refine ⟨hq, ?_⟩
  intro ν2 e2
  subst e2
  rw [i_0, nI_ltI (by omega) (by omega), nI_leI (by omega) (by omega), nI_clamp (by omega)]
  refine ⟨fun z => by omega, fun _ => ⟨by omega, by omega, k - 1, n - c, by omega, by omega, fun q4 hq4 ν6 e6 => ?_⟩⟩
  subst e6
  have z4 : rk ν.2 q4 = 0 := hq4
  have n2 : q ≠ q4 := fun z => by rw [z, z4] at hq; cases hq
  refine ⟨by show rk (tN (tI ν.2 q 0 0) q4 109 c) q = 7; rw [rk_tN, if_neg n2]; exact hq, ?_⟩
  intro ν12 e12
  have hlp : LQp ν12.2 q [] c := by
    rw [e12]
    refine ⟨by show rk (tN (tI ν.2 q 0 0) q4 109 c) q = 7; rw [rk_tN, if_neg n2]; exact hq, ?_, ⟨q4, by show rO (tO _ q 1 (some q4)) q 1 = _; rw [rO_tO, if_pos ⟨rfl, rfl⟩], by show rk (tN (tI ν.2 q 0 0) q4 109 c) q4 = 109; rw [rk_tN, if_pos rfl], by show rn (tN (tI ν.2 q 0 0) q4 109 c) q4 = c; rw [rn_tN, if_pos rfl], fun i x hx => by simp at hx⟩, by simp, hc.1, by simp; omega, by decide, fun x hx => by cases hx⟩
    show rI (tN (tI ν.2 q 0 0) q4 109 c) q 2 = _
    rw [rI_tN, if_neg n2, rI_tI, if_neg (by omega)]; exact hz
  refine hQ ν12 (by rw [e12]) hlp ?_ (fun a ha => ?_)
  · rw [e12]
    exact (((Chg.tI (S := fun a => a = q) ν.2 0 0 rfl).trans (Chg.tN _ 109 _ hq4)).trans (Chg.tO _ _ _ rfl))
  · rcases ha with z | z
    · exact Or.inl z
    · rw [e12] at z
      have z : rO (tO (tN (tI ν.2 q 0 0) q4 109 c) q 1 (some q4)) q 1 = some a := z
      rw [rO_tO, if_pos ⟨rfl, rfl⟩] at z
      cases z; exact Or.inr z4
/-- where nothing is looked up, it does not matter by whom -/
theorem VT.b0 {al : Nat → Bool} (h9 : al 9 = false) (h10 : al 10 = false) {b b' : Nat} {ρ : RS} : ∀ d a cs, ((VT al b ρ d).1 a cs → (VT al b' ρ d).1 a cs) ∧ ((VT al b ρ d).2 a cs → (VT al b' ρ d).2 a cs)
  | 0, a, cs => ⟨fun h => h.elim, fun h => h.elim⟩
  | d + 1, a, cs => by
    have ih := VT.b0 h9 h10 (b := b) (b' := b') (ρ := ρ) d
    refine ⟨fun h => ?_, fun h => ?_⟩
    · rcases h with h | h | ⟨h1, k, x, c, hk, hal, -⟩ | ⟨h1, k, x1, x2, c1, c2, h2, h3, h4, h5, h6, h7, h8⟩ | ⟨h1, la, lb, x, as, sg, s, c, h2, h3, h4, h5, h6, h7, h8⟩
      · exact Or.inl h
      · exact Or.inr (Or.inl h)
      · rcases (show k = 0 ∨ k = 1 by omega) with rfl | rfl
        · rw [h9] at hal; cases hal
        · rw [h10] at hal; cases hal
      · exact Or.inr (Or.inr (Or.inr (Or.inl ⟨h1, k, x1, x2, c1, c2, h2, h3, h4, h5, h6, (ih _ _).1 h7, (ih _ _).1 h8⟩)))
      · exact Or.inr (Or.inr (Or.inr (Or.inr ⟨h1, la, lb, x, as, sg, s, c, h2, h3, h4, h5, (ih _ _).1 h6, h7, jn.mono (fun y z => (ih y z).1) h8⟩)))
    · rcases h with h | ⟨h1, x, c, h2, h3, h4⟩ | ⟨h1, k, x1, x2, c1, c2, h2, h3, h4, h5, h6, h7, h8⟩ | ⟨h1, la, x, as, c, o, h2, h3, h4, h5, h6, h7⟩
      · exact Or.inl h
      · exact Or.inr (Or.inl ⟨h1, x, c, h2, h3, (ih _ _).2 h4⟩)
      · exact Or.inr (Or.inr (Or.inl ⟨h1, k, x1, x2, c1, c2, h2, h3, h4, h5, h6, (ih _ _).1 h7, (ih _ _).1 h8⟩))
      · exact Or.inr (Or.inr (Or.inr ⟨h1, la, x, as, c, o, h2, h3, h4, h5, (ih _ _).2 h6, jn.mono (fun y z => (ih y z).2) h7⟩))
