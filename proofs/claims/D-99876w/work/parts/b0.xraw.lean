/-! THE SYSTEM: raw memory, lists that grow -/
theorem rI_tI (ρ : RS) (a k : Nat) (v : Int32) (a' k' : Nat) : rI (tI ρ a k v) a' k' = if a' = a ∧ k' = k then v else rI ρ a' k' := rfl
theorem rL_tL (ρ : RS) (a k : Nat) (v : Int64) (a' k' : Nat) : rL (tL ρ a k v) a' k' = if a' = a ∧ k' = k then v else rL ρ a' k' := rfl
theorem rO_tO (ρ : RS) (a k : Nat) (v : Option Nat) (a' k' : Nat) : rO (tO ρ a k v) a' k' = if a' = a ∧ k' = k then v else rO ρ a' k' := rfl
theorem rk_tN (ρ : RS) (a c n x : Nat) : rk (tN ρ a c n) x = if x = a then c else rk ρ x := by
  show ((if x = a then (c, n) else ρ.1 x) : Nat × Nat).1 = _
  split <;> rfl
theorem rn_tN (ρ : RS) (a c n x : Nat) : rn (tN ρ a c n) x = if x = a then n else rn ρ x := by
  show ((if x = a then (c, n) else ρ.1 x) : Nat × Nat).2 = _
  split <;> rfl
theorem rI_tN (ρ : RS) (a c n x : Nat) : rI (tN ρ a c n) x = if x = a then fun _ => 0 else rI ρ x := rfl
theorem rL_tN (ρ : RS) (a c n x : Nat) : rL (tN ρ a c n) x = if x = a then fun _ => 0 else rL ρ x := rfl
theorem rO_tN (ρ : RS) (a c n x : Nat) : rO (tN ρ a c n) x = if x = a then fun _ => none else rO ρ x := rfl
theorem rI_tIs (ρ : RS) (a : Nat) (f : Nat → Int32) (x : Nat) : rI (tIs ρ a f) x = if x = a then f else rI ρ x := rfl
theorem rO_tOs (ρ : RS) (a : Nat) (f : Nat → Option Nat) (x : Nat) : rO (tOs ρ a f) x = if x = a then f else rO ρ x := rfl
def Eqa (ρ ρ' : RS) (a : Nat) : Prop := rk ρ' a = rk ρ a ∧ rn ρ' a = rn ρ a ∧ (∀ k, rI ρ' a k = rI ρ a k) ∧ (∀ k, rL ρ' a k = rL ρ a k) ∧ ∀ k, rO ρ' a k = rO ρ a k
theorem Eqa.refl (ρ : RS) (a : Nat) : Eqa ρ ρ a := ⟨rfl, rfl, fun _ => rfl, fun _ => rfl, fun _ => rfl⟩
theorem Eqa.trans {ρ ρ' ρ'' : RS} {a : Nat} (h : Eqa ρ ρ' a) (g : Eqa ρ' ρ'' a) : Eqa ρ ρ'' a := ⟨g.1.trans h.1, g.2.1.trans h.2.1, fun k => (g.2.2.1 k).trans (h.2.2.1 k), fun k => (g.2.2.2.1 k).trans (h.2.2.2.1 k), fun k => (g.2.2.2.2 k).trans (h.2.2.2.2 k)⟩
/-- of what was there only these change -/
def Chg (S : Nat → Prop) (ρ ρ' : RS) : Prop := (∀ a, rk ρ a ≠ 0 → rk ρ' a = rk ρ a ∧ rn ρ' a = rn ρ a) ∧ ∀ a, rk ρ a ≠ 0 → ¬ S a → Eqa ρ ρ' a
theorem Chg.refl (S : Nat → Prop) (ρ : RS) : Chg S ρ ρ := ⟨fun _ _ => ⟨rfl, rfl⟩, fun _ _ _ => Eqa.refl _ _⟩
theorem Chg.trans {S : Nat → Prop} {ρ ρ' ρ'' : RS} (h : Chg S ρ ρ') (g : Chg S ρ' ρ'') : Chg S ρ ρ'' :=
  ⟨fun a ha => by
    obtain ⟨h1, h2⟩ := h.1 a ha
    obtain ⟨g1, g2⟩ := g.1 a (by rw [h1]; exact ha)
    exact ⟨g1.trans h1, g2.trans h2⟩, fun a ha hs => (h.2 a ha hs).trans (g.2 a (by rw [(h.1 a ha).1]; exact ha) hs)⟩
theorem Chg.wide {S T : Nat → Prop} {ρ ρ' : RS} (h : Chg S ρ ρ') (hst : ∀ a, rk ρ a ≠ 0 → S a → T a) : Chg T ρ ρ' := ⟨h.1, fun a ha ht => h.2 a ha (fun z => ht (hst a ha z))⟩
theorem Chg.tI {S : Nat → Prop} (ρ : RS) {a : Nat} (k : Nat) (v : Int32) (hs : S a) : Chg S ρ (tI ρ a k v) := ⟨fun _ _ => ⟨rfl, rfl⟩, fun x _ hx => ⟨rfl, rfl, fun k' => by rw [rI_tI, if_neg (fun q => hx (by rw [q.1]; exact hs))], fun _ => rfl, fun _ => rfl⟩⟩
theorem Chg.tL {S : Nat → Prop} (ρ : RS) {a : Nat} (k : Nat) (v : Int64) (hs : S a) : Chg S ρ (tL ρ a k v) := ⟨fun _ _ => ⟨rfl, rfl⟩, fun x _ hx => ⟨rfl, rfl, fun _ => rfl, fun k' => by rw [rL_tL, if_neg (fun q => hx (by rw [q.1]; exact hs))], fun _ => rfl⟩⟩
theorem Chg.tO {S : Nat → Prop} (ρ : RS) {a : Nat} (k : Nat) (v : Option Nat) (hs : S a) : Chg S ρ (tO ρ a k v) := ⟨fun _ _ => ⟨rfl, rfl⟩, fun x _ hx => ⟨rfl, rfl, fun _ => rfl, fun _ => rfl, fun k' => by rw [rO_tO, if_neg (fun q => hx (by rw [q.1]; exact hs))]⟩⟩
theorem Chg.tN {S : Nat → Prop} (ρ : RS) {a : Nat} (c n : Nat) (ha : rk ρ a = 0) : Chg S ρ (tN ρ a c n) := by
  have e : ∀ x, rk ρ x ≠ 0 → ¬ x = a := fun x hx z => hx (by rw [z]; exact ha)
  refine ⟨fun x hx => ⟨by rw [rk_tN, if_neg (e x hx)], by rw [rn_tN, if_neg (e x hx)]⟩, fun x hx _ => ⟨by rw [rk_tN, if_neg (e x hx)], by rw [rn_tN, if_neg (e x hx)], fun k => by rw [rI_tN, if_neg (e x hx)], fun k => by rw [rL_tN, if_neg (e x hx)], fun k => by rw [rO_tN, if_neg (e x hx)]⟩⟩
theorem Chg.tIs {S : Nat → Prop} (ρ : RS) {a : Nat} (f : Nat → Int32) (hs : S a) : Chg S ρ (tIs ρ a f) := ⟨fun _ _ => ⟨rfl, rfl⟩, fun x _ hx => ⟨rfl, rfl, fun k' => by rw [rI_tIs, if_neg (fun q => hx (by rw [q]; exact hs))], fun _ => rfl, fun _ => rfl⟩⟩
theorem Chg.tOs {S : Nat → Prop} (ρ : RS) {a : Nat} (f : Nat → Option Nat) (hs : S a) : Chg S ρ (tOs ρ a f) := ⟨fun _ _ => ⟨rfl, rfl⟩, fun x _ hx => ⟨rfl, rfl, fun _ => rfl, fun _ => rfl, fun k' => by rw [rO_tOs, if_neg (fun q => hx (by rw [q]; exact hs))]⟩⟩
theorem Chg.trans2 {S T : Nat → Prop} {ρ ρ' ρ'' : RS} (h : Chg S ρ ρ') (g : Chg T ρ' ρ'') (ht : ∀ a, T a → S a ∨ rk ρ a = 0) : Chg S ρ ρ'' :=
  ⟨fun a ha => by
    obtain ⟨h1, h2⟩ := h.1 a ha
    obtain ⟨g1, g2⟩ := g.1 a (by rw [h1]; exact ha)
    exact ⟨g1.trans h1, g2.trans h2⟩, fun a ha hs => (h.2 a ha hs).trans (g.2 a (by rw [(h.1 a ha).1]; exact ha) (fun z => by
      rcases ht a z with w | w
      · exact hs w
      · exact ha w))⟩
/-- what is made behind a time -/
theorem Old.chg {S : Nat → Prop} {ρ0 ρ ρ' : RS} (h : Old ρ0 ρ) (g : Chg S ρ ρ') (hs : ∀ a, S a → rk ρ0 a = 0) : Old ρ0 ρ' := fun a ha => by
  have h1 := h a ha
  have h2 : Eqa ρ ρ' a := g.2 a (by rw [h1.1]; exact ha) (fun z => ha (hs a z))
  exact Eqa.trans (ρ := ρ0) (ρ' := ρ) h1 h2
theorem Old.z {ρ0 ρ : RS} (h : Old ρ0 ρ) {a : Nat} (ha : rk ρ a = 0) : rk ρ0 a = 0 := by
  rcases Nat.eq_zero_or_pos (rk ρ0 a) with z | z
  · exact z
  · have := (h a (by omega)).1
    omega
theorem Old.c2 {ρ ρ' : RS} (h : Old ρ ρ') : Chg (fun _ => False) ρ ρ' := ⟨fun a ha => ⟨(h a ha).1, (h a ha).2.1⟩, fun a ha _ => h a ha⟩
theorem rcO {ρ : RS} {a c : Nat} (h : rk ρ a = c) (hc : c < 5000) : rc ρ a = c := by unfold rc; rw [h]; exact Nat.mod_eq_of_lt hc
/-- a list that may grow: what it holds, how much it could -/
def LC (ρ : RS) (la : Nat) (as : List Nat) (c : Nat) : Prop := rk ρ la = 7 ∧ rI ρ la 2 = nI as.length ∧ (∃ ea, rO ρ la 1 = some ea ∧ rk ρ ea = 109 ∧ rn ρ ea = c ∧ ∀ (k : Nat) x, as[k]? = some x → rO ρ ea k = some x) ∧ as.length ≤ c ∧ 2 ≤ c ∧ 2 * c ≤ 3 * as.length + 4 ∧ as.length < 20000 ∧ ∀ x ∈ as, 1 ≤ rc ρ x ∧ rc ρ x < 23
theorem LC.rep {ρ : RS} {la c : Nat} {as : List Nat} (h : LC ρ la as c) : LRep ρ la as := by
  obtain ⟨h1, h2, ⟨ea, h3, h4, h5, h6⟩, h7, h8, h9, h10, -⟩ := h
  exact ⟨rcO h1 (by decide), h2, ea, h3, rcO h4 (by decide), by omega, by omega, h6⟩
/-- the addresses that belong to a list -/
def LSt (ρ : RS) (la a : Nat) : Prop := a = la ∨ rO ρ la 1 = some a
def grw (c m : Nat) : Nat := if m = c then c + max 1 (c / 2) else c
theorem grw_ok {c m : Nat} (h1 : m ≤ c) (h2 : 2 ≤ c) (h3 : 2 * c ≤ 3 * m + 4) : m + 1 ≤ grw c m ∧ 2 ≤ grw c m ∧ 2 * grw c m ≤ 3 * (m + 1) + 4 ∧ c ≤ grw c m ∧ (m = c → grw c m ≤ 4 * (grw c m - c)) ∧ 4 * grw c m ≤ 8 * (m + 1) + 8 := by
  unfold grw
  split <;> omega
theorem xl_newLen {ν : XN} {a b c : Nat} {Q : Int32 → XN → Prop} (ha : 0 < a) (hs : a + b + c < 1000000) (hQ : Q (nI (a + max b c)) ν) : xw_J10_newLength (nI a) (nI b) (nI c) ν Q := by
  unfold xw_J10_newLength xw_J12_max
  have go : ∀ r, r = max b c → ((nI a + nI r ≤ 0 → xw_J10_newLength_21 (nI a) (nI b) ν Q) ∧ (¬ nI a + nI r ≤ 0 → ((2147483639 < nI a + nI r → xw_J10_newLength_21 (nI a) (nI b) ν Q) ∧ (¬ 2147483639 < nI a + nI r → Q (nI a + nI r) ν)))) := by
    intro r hr
    rw [nI_add, i_0, i_2147483639, nI_leI (by omega) (by omega), nI_ltI (by omega) (by omega)]
    refine ⟨fun z => by omega, fun _ => ⟨fun z => by omega, fun _ => ?_⟩⟩
    rw [hr]; exact hQ
  rw [nI_ltI (by omega) (by omega)]
  exact ⟨fun z => go c (by omega), fun z => go b (by omega)⟩
theorem va_cpy0 {α : Type} (f g : Nat → α) (n i : Nat) : va_cpy f g 0 0 n i = if i < n then f i else g i := by
  unfold va_cpy
  by_cases z : i < n
  · simp [z]
  · simp [z]
theorem xl_add {ν : XN} {la x c k n : Nat} {as : List Nat} {Q : Int32 → XN → Prop} (h : LC ν.2 la as c) (hx : 1 ≤ rc ν.2 x ∧ rc ν.2 x < 23) (hm : as.length < 10000) (hk : 1 ≤ k) (hn : 4 * (grw c as.length - c) ≤ n)
    (hQ : ∀ ν', ν'.1 = ν.1 → LC ν'.2 la (as ++ [x]) (grw c as.length) → Chg (LSt ν.2 la) ν.2 ν'.2 → (∀ a, LSt ν'.2 la a → LSt ν.2 la a ∨ rk ν.2 a = 0) → Q (nI 1) ν') : xw_J2_add la x ν k n Q := by
  obtain ⟨h1, h2, ⟨ea, h3, h4, h5, h6⟩, h7, h8, h9, h10, h11⟩ := h
  have hne : ea ≠ la := fun z => by rw [z, h1] at h4; cases h4
  have r1 : rc ν.2 la = 7 := rcO h1 (by decide)
  obtain ⟨g1, g2, g3, g4, g5, g6⟩ := grw_ok h7 h8 h9
  -- the end: an element is put
  have fin : ∀ (ν1 : XN) (ea1 c1 k1 n1 : Nat), ν1.1 = ν.1 → rk ν1.2 la = 7 → rO ν1.2 la 1 = some ea1 → rk ν1.2 ea1 = 109 → rn ν1.2 ea1 = c1 → c1 = grw c as.length → (∀ (k : Nat) y, as[k]? = some y → rO ν1.2 ea1 k = some y) → Chg (LSt ν.2 la) ν.2 ν1.2 → (ea1 = ea ∨ rk ν.2 ea1 = 0) → xw_J2_add_2_11 la x ea1 (nI as.length) ν1 k1 n1 (fun ν9 => Q (nI 1) ν9) := by
    intro ν1 ea1 c1 k1 n1 e1 a1 a2 a3 a4 a5 a6 a7 a8
    have hne1 : ea1 ≠ la := fun z => by rw [z, a1] at a3; cases a3
    have hxz : rk ν.2 x ≠ 0 := rc_rk (by omega)
    have hrc : ∀ y, rk ν.2 y ≠ 0 → rc ν1.2 y = rc ν.2 y := fun y hy => by unfold rc; rw [(a7.1 y hy).1]
    unfold xw_J2_add_2_11
    rw [nI_clamp (by omega)]
    refine ⟨a3, by rw [hrc x hxz]; exact hx, by rw [a4]; exact vp_in_nI (by omega) (by omega), ?_⟩
    intro ν2 e2
    subst e2
    refine ⟨a1, ?_⟩
    intro ν3 e3
    subst e3
    rw [nI_1]
    have hc2 : Chg (LSt ν.2 la) ν.2 (tI (tO ν1.2 ea1 as.length (some x)) la 2 (nI (as.length + 1))) := by
      refine (a7.trans2 (Chg.tO (S := fun a => a = ea1) ν1.2 as.length (some x) rfl) (fun a ha => ?_)).trans (Chg.tI _ _ _ (Or.inl rfl))
      rcases a8 with z | z
      · exact Or.inl (Or.inr (by rw [ha, z]; exact h3))
      · exact Or.inr (by rw [ha]; exact z)
    have o1 : rO (tI (tO ν1.2 ea1 as.length (some x)) la 2 (nI (as.length + 1))) la 1 = some ea1 := by
      show rO (tO ν1.2 ea1 as.length (some x)) la 1 = _
      rw [rO_tO, if_neg (fun q => hne1 q.1.symm)]; exact a2
    refine hQ _ e1 ⟨a1, ?_, ⟨ea1, o1, a3, by show rn ν1.2 ea1 = _; rw [a4, a5], fun k y hy => ?_⟩, by simp; omega, g2, by simp; omega, by simp; omega, fun y hy => ?_⟩ hc2 (fun a ha => ?_)
    · rw [rI_tI, if_pos ⟨rfl, rfl⟩]; simp
    · show rO (tO ν1.2 ea1 as.length (some x)) ea1 k = _
      rw [rO_tO]
      rcases Nat.lt_or_ge k as.length with w | w
      · rw [List.getElem?_append_left w] at hy
        rw [if_neg (by omega)]; exact a6 k y hy
      · rw [List.getElem?_append_right w] at hy
        have hz : k = as.length := by
          have := (List.getElem?_eq_some_iff.mp hy).1
          simp at this; omega
        subst hz
        simp at hy
        rw [if_pos ⟨rfl, rfl⟩, hy]
    · have hyz : rk ν.2 y ≠ 0 ∧ 1 ≤ rc ν.2 y ∧ rc ν.2 y < 23 := by
        rcases List.mem_append.mp hy with w | w
        · exact ⟨rc_rk (by have := h11 y w; omega), h11 y w⟩
        · simp at w; subst w; exact ⟨hxz, hx⟩
      show 1 ≤ rc ν1.2 y ∧ rc ν1.2 y < 23
      rw [hrc y hyz.1]; exact hyz.2
    · rcases ha with z | z
      · exact Or.inl (Or.inl z)
      · have z : rO (tI (tO ν1.2 ea1 as.length (some x)) la 2 (nI (as.length + 1))) la 1 = some a := z
        rw [o1] at z
        cases z
        rcases a8 with w | w
        · exact Or.inl (Or.inr (by rw [w]; exact h3))
        · exact Or.inr w
  unfold xw_J2_add
  refine ⟨r1, h1, ?_⟩
  intro ν1 e1
  subst e1
  have c1 : Chg (LSt ν.2 la) ν.2 (tI ν.2 la 0 (rI ν.2 la 0 + 1)) := Chg.tI _ _ _ (Or.inl rfl)
  refine ⟨r1, r1, ea, h3, r1, k, n, 0, 0, by omega, by omega, ?_⟩
  have i2 : rI (tI ν.2 la 0 (rI ν.2 la 0 + 1)) la 2 = nI as.length := by rw [rI_tI, if_neg (by omega)]; exact h2
  rw [i2]
  unfold xw_J2_add_2
  have eo : Int32.ofNat (rn (tI ν.2 la 0 (rI ν.2 la 0 + 1)) ea) = nI c := by show nI (rn ν.2 ea) = _; rw [h5]
  rw [eo, nI_eq (by omega) (by omega)]
  refine ⟨rcO h4 (by decide), fun z => ?_, fun z => ⟨r1, k, n, 0, 0, by omega, by omega, ?_⟩⟩
  · refine fin _ ea c _ _ rfl h1 h3 h4 h5 ?_ h6 c1 (Or.inl rfl)
    unfold grw; rw [if_neg z]
  · unfold xw_J2_grow
    refine ⟨r1, r1, k, n, 0, 0, by omega, by omega, ?_⟩
    rw [i2, nI_1]
    unfold xw_J2_grow_2
    refine ⟨r1, ea, h3, rcO h4 (by decide), ?_⟩
    rw [eo, i_0, nI_ltI (by omega) (by omega)]
    refine ⟨fun _ => ?_, fun w => by omega⟩
    unfold xw_J2_grow_2_20
    have e2 : nI (as.length + 1) - nI c = nI 1 := by rw [pk_sub (by omega)]; congr 1; omega
    have e3 : nI c >>> ((1 : Int32) &&& 31) = nI (c / 2) := by rw [i_1, i_31, and31 (by decide), pk_shrN (by omega) (nI 1) 1 (by decide)]
    rw [e2, e3]
    refine xl_newLen (by omega) (by omega) ⟨r1, ea, h3, k, n, 0, 0, by omega, by omega, ?_⟩
    have hgr : c + max 1 (c / 2) = grw c as.length := by unfold grw; rw [if_pos z]
    rw [hgr]
    have g5' := g5 z
    unfold xw_J13_copyOf
    refine ⟨rcO h4 (by decide), fun b2 hb2 => ⟨k, n, 0, 0, by omega, by omega, ?_⟩⟩
    unfold xw_J13_copyOf_2
    refine fun b1 hb1 => ⟨fun w => absurd (by rw [hb1] at hb2; cases hb2; rfl) w, fun _ => ?_⟩
    rw [i_0, nI_ltI (by omega) (by omega), nI_clamp (by omega)]
    refine ⟨by omega, by omega, 0, 0, by omega, by omega, fun q5 hq5 ν7 e7 => ?_⟩
    subst e7
    have hq0 : rk ν.2 q5 = 0 := hq5
    have qla : la ≠ q5 := fun w => by rw [← w, h1] at hq0; cases hq0
    have qea : ea ≠ q5 := fun w => by rw [← w, h4] at hq0; cases hq0
    unfold xw_J13_copyOf_2_24
    have k7 : ∀ y, y ≠ q5 → rk (tN (tI ν.2 la 0 (rI ν.2 la 0 + 1)) q5 109 (grw c as.length)) y = rk ν.2 y := fun y hy => by rw [rk_tN, if_neg hy]; rfl
    have kea : rk (tN (tI ν.2 la 0 (rI ν.2 la 0 + 1)) q5 109 (grw c as.length)) ea = 109 := by rw [k7 ea qea]; exact h4
    have kla : rk (tN (tI ν.2 la 0 (rI ν.2 la 0 + 1)) q5 109 (grw c as.length)) la = 7 := by rw [k7 la qla]; exact h1
    have nea : rn (tN (tI ν.2 la 0 (rI ν.2 la 0 + 1)) q5 109 (grw c as.length)) ea = c := by rw [rn_tN, if_neg qea]; exact h5
    have kq : rk (tN (tI ν.2 la 0 (rI ν.2 la 0 + 1)) q5 109 (grw c as.length)) q5 = 109 := by rw [rk_tN, if_pos rfl]
    have nq : rn (tN (tI ν.2 la 0 (rI ν.2 la 0 + 1)) q5 109 (grw c as.length)) q5 = grw c as.length := by rw [rn_tN, if_pos rfl]
    have oea : rO (tN (tI ν.2 la 0 (rI ν.2 la 0 + 1)) q5 109 (grw c as.length)) ea = rO ν.2 ea := by rw [rO_tN, if_neg qea]; rfl
    have ola : rO (tN (tI ν.2 la 0 (rI ν.2 la 0 + 1)) q5 109 (grw c as.length)) la = rO ν.2 la := by rw [rO_tN, if_neg qla]; rfl
    have c7 : Chg (LSt ν.2 la) ν.2 (tN (tI ν.2 la 0 (rI ν.2 la 0 + 1)) q5 109 (grw c as.length)) := c1.trans (Chg.tN _ _ _ hq5)
    generalize hρ7 : tN (tI ν.2 la 0 (rI ν.2 la 0 + 1)) q5 109 (grw c as.length) = ρ7 at *
    have en : Int32.ofNat (rn ρ7 ea) = nI c := by show nI (rn ρ7 ea) = _; rw [nea]
    refine ⟨rcO kea (by decide), ?_⟩
    show xw_J12_min (Int32.ofNat (rn ρ7 ea)) _ _ _
    rw [en]
    unfold xw_J12_min
    rw [nI_ltI (by omega) (by omega)]
    refine ⟨fun w => by omega, fun _ => ?_⟩
    simp only []
    rw [nI_clamp (by omega), show Int32.toNatClampNeg 0 = 0 from rfl, i_0, nI_ltI (by omega) (by omega)]
    refine ⟨rcO kea (by decide), kq, by omega, by rw [nea]; omega, by rw [nq]; omega, fun i hi v hv => ?_, ?_⟩
    · have hv : rO ρ7 ea (0 + i) = some v := hv
      rw [oea, Nat.zero_add] at hv
      have hx := List.getElem?_eq_getElem (show i < as.length by omega)
      rw [h6 i _ hx] at hv
      cases hv
      have hm := h11 _ (List.mem_of_getElem? hx)
      have : rc ρ7 as[i] = rc ν.2 as[i] := by unfold rc; rw [(c7.1 _ (rc_rk (by omega))).1]
      show 1 ≤ rc ρ7 as[i] ∧ rc ρ7 as[i] < 23
      rw [this]; exact hm
    · intro ν16 e16
      subst e16
      refine ⟨kla, ?_⟩
      intro ν38 e38
      subst e38
      refine fin _ q5 (grw c as.length) _ _ rfl kla (by rw [rO_tO, if_pos ⟨rfl, rfl⟩]) kq nq rfl (fun j y hy => ?_) ?_ (Or.inr hq0)
      · have hj := (List.getElem?_eq_some_iff.mp hy).1
        rw [rO_tO, if_neg (fun w => qla w.1.symm), rO_tOs, if_pos rfl, va_cpy0, if_pos (by omega)]
        show rO ρ7 ea j = _
        rw [oea]; exact h6 j y hy
      · refine (c7.trans2 (Chg.tOs (S := fun a => a = q5) _ _ rfl) (fun a ha => Or.inr (by rw [ha]; exact hq0))).trans (Chg.tO _ _ _ (Or.inl rfl))
