/-! THE SYSTEM: a plain as it is told -/
theorem SRep.kp {S : Nat → Prop} {ρ ρ' : RS} {a : Nat} {w : List Nat} (h : SRep ρ a w) (c : Chg S ρ ρ') (hS : ∀ x, S x → rc ρ x ≠ 11 ∧ rc ρ x ≠ 102) : SRep ρ' a w := by
  obtain ⟨h1, h2, ⟨va, h3, h4, h5, h6⟩, h7, h8⟩ := h
  have e1 := c.2 a (rc_rk (by omega)) (fun z => (hS a z).1 h1)
  have e2 := c.2 va (rc_rk (by omega)) (fun z => (hS va z).2 h4)
  refine ⟨by unfold rc at h1 ⊢; rw [e1.1]; exact h1, by rw [e1.2.2.1]; exact h2, ⟨va, by rw [e1.2.2.2.2]; exact h3, by unfold rc at h4 ⊢; rw [e2.1]; exact h4, by rw [e2.2.1]; exact h5, fun i x hx => by rw [e2.2.2.1]; exact h6 i x hx⟩, h7, h8⟩
/-- named ones -/
def NmR (ρ : RS) (c : Nat) (as : List Nat) (ws : List (List Nat)) : Prop := as.length = ws.length ∧ ∀ (k : Nat) w, ws[k]? = some w → ∃ a sa, as[k]? = some a ∧ rk ρ a = c ∧ rO ρ a 0 = some sa ∧ SRep ρ sa w
theorem NmR.kp {S : Nat → Prop} {ρ ρ' : RS} {c : Nat} {as : List Nat} {ws : List (List Nat)} (h : NmR ρ c as ws) (hc : c ≠ 0) (g : Chg S ρ ρ') (hS : ∀ x, S x → rc ρ x ≠ 11 ∧ rc ρ x ≠ 102) (hS2 : ∀ x ∈ as, ¬ S x) : NmR ρ' c as ws := by
  refine ⟨h.1, fun k w hk => ?_⟩
  obtain ⟨a, sa, a1, a2, a3, a4⟩ := h.2 k w hk
  have e1 := g.2 a (by rw [a2]; exact hc) (hS2 a (List.mem_of_getElem? a1))
  exact ⟨a, sa, a1, by rw [e1.1]; exact a2, by rw [e1.2.2.2.2]; exact a3, a4.kp g hS⟩
/-- persons: where, how tired, what they know -/
def PeR (ρ : RS) (as : List Nat) (D : Dr) : Prop := ∀ (k : Nat) a, as[k]? = some a → rk ρ a = 9 ∧ rI ρ a 1 = nI (dA D k) ∧ rI ρ a 2 = nI (dT D k) ∧ rI ρ a 3 = nI (dK D k)
theorem PeR.kp {S : Nat → Prop} {ρ ρ' : RS} {as : List Nat} {D : Dr} (h : PeR ρ as D) (g : Chg S ρ ρ') (hS2 : ∀ x ∈ as, ¬ S x) : PeR ρ' as D := by
  intro k a hk
  obtain ⟨a1, a2, a3, a4⟩ := h k a hk
  have e1 := g.2 a (by rw [a1]; decide) (hS2 a (List.mem_of_getElem? hk))
  exact ⟨by rw [e1.1]; exact a1, by rw [e1.2.2.1]; exact a2, by rw [e1.2.2.1]; exact a3, by rw [e1.2.2.1]; exact a4⟩
def AkR (ρ : RS) (as : List Nat) (l : List (Nat × Nat)) : Prop := as.length = l.length ∧ ∀ (k : Nat) q, l[k]? = some q → ∃ a, as[k]? = some a ∧ rk ρ a = 10 ∧ rI ρ a 0 = nI q.1 ∧ rI ρ a 1 = nI q.2
theorem AkR.kp {S : Nat → Prop} {ρ ρ' : RS} {as : List Nat} {l : List (Nat × Nat)} (h : AkR ρ as l) (g : Chg S ρ ρ') (hS : ∀ x, S x → rk ρ x ≠ 10) : AkR ρ' as l := by
  refine ⟨h.1, fun k q hk => ?_⟩
  obtain ⟨a, a1, a2, a3, a4⟩ := h.2 k q hk
  have e1 := g.2 a (by rw [a2]; decide) (fun z => hS a z a2)
  exact ⟨a, a1, by rw [e1.1]; exact a2, by rw [e1.2.2.1]; exact a3, by rw [e1.2.2.1]; exact a4⟩
/-- a rule told, or none yet -/
def TrV (ρ : RS) (b k : Nat) (o : Option (List Nat)) (al : Nat → Bool) (N : Nat → Prop) : Prop := (o = none ∧ rO ρ b k = none) ∨ ∃ cs a, o = some cs ∧ rO ρ b k = some a ∧ ∀ ρ', Sme N ρ ρ' → (VT al 0 ρ' DP).1 a cs
def TrT (ρ : RS) (b k : Nat) (o : Option (List Nat)) (al : Nat → Bool) (N : Nat → Prop) : Prop := (o = none ∧ rO ρ b k = none) ∨ ∃ cs a, o = some cs ∧ rO ρ b k = some a ∧ ∀ ρ', Sme N ρ ρ' → (VT al 0 ρ' DP).2 a cs
theorem TrV.kp {ρ ρ' : RS} {b k : Nat} {o : Option (List Nat)} {al : Nat → Bool} {N : Nat → Prop} (h : TrV ρ b k o al N) (e : rO ρ' b k = rO ρ b k) (s : Sme N ρ ρ') : TrV ρ' b k o al N := by
  rcases h with h | ⟨cs, a, h1, h2, h3⟩
  · exact Or.inl ⟨h.1, by rw [e]; exact h.2⟩
  · exact Or.inr ⟨cs, a, h1, by rw [e]; exact h2, fun ρ'' s' => h3 ρ'' (s.trans s')⟩
theorem TrT.kp {ρ ρ' : RS} {b k : Nat} {o : Option (List Nat)} {al : Nat → Bool} {N : Nat → Prop} (h : TrT ρ b k o al N) (e : rO ρ' b k = rO ρ b k) (s : Sme N ρ ρ') : TrT ρ' b k o al N := by
  rcases h with h | ⟨cs, a, h1, h2, h3⟩
  · exact Or.inl ⟨h.1, by rw [e]; exact h.2⟩
  · exact Or.inr ⟨cs, a, h1, by rw [e]; exact h2, fun ρ'' s' => h3 ρ'' (s.trans s')⟩
theorem TrV.wide {ρ : RS} {b k : Nat} {o : Option (List Nat)} {al : Nat → Bool} {N N' : Nat → Prop} (h : TrV ρ b k o al N) (w : ∀ x, N x → N' x) : TrV ρ b k o al N' := by
  rcases h with h | ⟨cs, a, h1, h2, h3⟩
  · exact Or.inl h
  · exact Or.inr ⟨cs, a, h1, h2, fun ρ'' s' => h3 ρ'' (fun x hx => s' x (w x hx))⟩
theorem TrT.wide {ρ : RS} {b k : Nat} {o : Option (List Nat)} {al : Nat → Bool} {N N' : Nat → Prop} (h : TrT ρ b k o al N) (w : ∀ x, N x → N' x) : TrT ρ b k o al N' := by
  rcases h with h | ⟨cs, a, h1, h2, h3⟩
  · exact Or.inl h
  · exact Or.inr ⟨cs, a, h1, h2, fun ρ'' s' => h3 ρ'' (fun x hx => s' x (w x hx))⟩
/-- heights told -/
def DrH (ρ : RS) (ha : Nat) (H : Nat → Nat) : Prop := rk ρ ha = 101 ∧ rn ρ ha = 64 ∧ ∀ i, i < 64 → rI ρ ha i = nI (H i)
theorem DrH.kp {S : Nat → Prop} {ρ ρ' : RS} {ha : Nat} {H : Nat → Nat} (h : DrH ρ ha H) (g : Chg S ρ ρ') (hS : ¬ S ha) : DrH ρ' ha H := by
  have e1 := g.2 ha (by rw [h.1]; decide) hS
  exact ⟨by rw [e1.1]; exact h.1, by rw [e1.2.1]; exact h.2.1, fun i hi => by rw [e1.2.2.1]; exact h.2.2 i hi⟩
/-- three lists: topics, people, what is asked; with their capacities -/
def DrL (ρ : RS) (lt lp ll ct cp cl : Nat) (ta pa aa : List Nat) (D : Dr) : Prop :=
  (LQp ρ lt ta ct ∧ NmR ρ 8 ta (plT D.1)) ∧ (LQp ρ lp pa cp ∧ NmR ρ 9 pa (plN D.1) ∧ PeR ρ pa D ∧ pa.Nodup) ∧ (LQp ρ ll aa cl ∧ AkR ρ aa (plL D.1)) ∧
  ((∀ x, LSt ρ lt x → ¬ LSt ρ lp x ∧ ¬ LSt ρ ll x) ∧ ∀ x, LSt ρ lp x → ¬ LSt ρ ll x)
theorem LSt.eq {ρ ρ' : RS} {la : Nat} (e : Eqa ρ ρ' la) (x : Nat) : LSt ρ' la x = LSt ρ la x := by
  unfold LSt
  rw [e.2.2.2.2]
theorem NmR.c {ρ : RS} {c a : Nat} {as : List Nat} {ws : List (List Nat)} (h : NmR ρ c as ws) (hm : a ∈ as) : rk ρ a = c := by
  obtain ⟨k, hk⟩ := List.getElem?_of_mem hm
  have hl := (List.getElem?_eq_some_iff.mp hk).1
  have hw := List.getElem?_eq_getElem (show k < ws.length by have := h.1; omega)
  obtain ⟨a', sa, a1, a2, -⟩ := h.2 k _ hw
  rw [hk] at a1
  cases a1; exact a2
theorem rcN {ρ : RS} {x c : Nat} (h : rk ρ x = c) (h1 : c < 200) (h2 : c ≠ 11 ∧ c ≠ 102) : rc ρ x ≠ 11 ∧ rc ρ x ≠ 102 := by
  have : rc ρ x = c := rcO h (by omega)
  rw [this]; exact h2
theorem LQp.kp {S : Nat → Prop} {ρ ρ' : RS} {la c : Nat} {as : List Nat} (h : LQp ρ la as c) (g : Chg S ρ ρ') (hS : ∀ x, LSt ρ la x → ¬ S x) : LQp ρ' la as c ∧ ∀ x, LSt ρ' la x = LSt ρ la x := by
  have hk : ∀ x, LSt ρ la x → rk ρ x ≠ 0 := fun x hx => by rcases h.k hx with v | v <;> rw [v] <;> decide
  have hs : Sme (LSt ρ la) ρ ρ' := fun x hx => g.2 x (hk x hx) (hS x hx)
  exact ⟨h.mv hs (fun x hx => (g.1 x (rc_rk (by have := h.2.2.2.2.2.2.2 x hx; omega))).1), fun x => LSt.eq (hs la (Or.inl rfl)) x⟩
theorem DrL.kp {S : Nat → Prop} {ρ ρ' : RS} {lt lp ll ct cp cl : Nat} {ta pa aa : List Nat} {D : Dr} (h : DrL ρ lt lp ll ct cp cl ta pa aa D) (g : Chg S ρ ρ') (hS : ∀ x, S x → rk ρ x = 2 ∨ rk ρ x = 101 ∨ rk ρ x = 0) :
    DrL ρ' lt lp ll ct cp cl ta pa aa D ∧ (∀ x, LSt ρ' lt x = LSt ρ lt x) ∧ (∀ x, LSt ρ' lp x = LSt ρ lp x) ∧ ∀ x, LSt ρ' ll x = LSt ρ ll x := by
  obtain ⟨⟨t1, t2⟩, ⟨p1, p2, p3, p4⟩, ⟨a1, a2⟩, d1, d2⟩ := h
  have hL : ∀ la as c, LQp ρ la as c → ∀ x, LSt ρ la x → ¬ S x := fun la as c hl x hx z => by rcases hl.k hx with v | v <;> have := hS x z <;> omega
  have hs : ∀ x, S x → rc ρ x ≠ 11 ∧ rc ρ x ≠ 102 := fun x hx => by rcases hS x hx with v | v | v <;> exact rcN v (by decide) (by decide)
  obtain ⟨t3, t4⟩ := t1.kp g (hL _ _ _ t1)
  obtain ⟨p5, p6⟩ := p1.kp g (hL _ _ _ p1)
  obtain ⟨a3, a4⟩ := a1.kp g (hL _ _ _ a1)
  refine ⟨⟨⟨t3, t2.kp (by decide) g hs (fun x hx z => by have := t2.c hx; have := hS x z; omega)⟩, ⟨p5, p2.kp (by decide) g hs (fun x hx z => by have := p2.c hx; have := hS x z; omega), p3.kp g (fun x hx z => by have := p2.c hx; have := hS x z; omega), p4⟩, ⟨a3, a2.kp g (fun x z => by have := hS x z; omega)⟩, fun x hx => ?_, fun x hx => ?_⟩, t4, p6, a4⟩
  · rw [t4] at hx
    rw [p6, a4]; exact d1 x hx
  · rw [p6] at hx
    rw [a4]; exact d2 x hx
/-- a draft: the plain's own fields, heights, lists, what the trees take -/
def DrB (ρ : RS) (b ha lt lp ll : Nat) (P : Pl) (n : Nat) : Prop := rk ρ b = 2 ∧ (rI ρ b 0 = nI n ∧ rI ρ b 1 = nI (plC P) ∧ rI ρ b 2 = nI (plR P) ∧ rI ρ b 3 = nI (plW P)) ∧ rO ρ b 4 = some ha ∧ rO ρ b 5 = some lt ∧ rO ρ b 6 = some lp ∧ rO ρ b 7 = some ll
def DrN (ρ : RS) (b ha lt lp ll : Nat) (pa : List Nat) (N : Nat → Prop) : Prop := ∀ x, N x → rk ρ x ≠ 0 ∧ x ≠ b ∧ x ≠ ha ∧ ¬ LSt ρ lt x ∧ ¬ LSt ρ lp x ∧ ¬ LSt ρ ll x ∧ x ∉ pa
def DrT (ρ : RS) (b : Nat) (N : Nat → Prop) (P : Pl) : Prop := TrV ρ b 8 (plF P) al1 N ∧ TrV ρ b 9 (plG P) al0 N ∧ TrT ρ b 10 (plH P) al0 N
def DrP (ρ : RS) (b ha lt lp ll ct cp cl : Nat) (ta pa aa : List Nat) (N : Nat → Prop) (D : Dr) (n : Nat) : Prop :=
  DrB ρ b ha lt lp ll D.1 n ∧ DrH ρ ha (dH D) ∧ DrL ρ lt lp ll ct cp cl ta pa aa D ∧ DrN ρ b ha lt lp ll pa N ∧ DrT ρ b N D.1
def xDr (M : Nat → Prop) (ρ : RS) (b : Nat) (D : Dr) (n : Nat) : Prop := ∃ ha lt lp ll ct cp cl ta pa aa N, (∀ x, M x → N x) ∧ DrP ρ b ha lt lp ll ct cp cl ta pa aa N D n
theorem DrN.kp {S : Nat → Prop} {ρ ρ' : RS} {b ha lt lp ll : Nat} {pa : List Nat} {N : Nat → Prop} (h : DrN ρ b ha lt lp ll pa N) (g : Chg S ρ ρ') (hS : ∀ x, N x → ¬ S x) (e1 : ∀ x, LSt ρ' lt x → LSt ρ lt x ∨ rk ρ x = 0) (e2 : ∀ x, LSt ρ' lp x → LSt ρ lp x ∨ rk ρ x = 0) (e3 : ∀ x, LSt ρ' ll x → LSt ρ ll x ∨ rk ρ x = 0) : DrN ρ' b ha lt lp ll pa N ∧ Sme N ρ ρ' := by
  refine ⟨fun x hx => ?_, fun x hx => g.2 x (h x hx).1 (hS x hx)⟩
  obtain ⟨h1, h2, h3, h4, h5, h6, h7⟩ := h x hx
  refine ⟨by rw [(g.1 x h1).1]; exact h1, h2, h3, fun z => ?_, fun z => ?_, fun z => ?_, h7⟩
  · rcases e1 x z with w | w
    · exact h4 w
    · exact h1 w
  · rcases e2 x z with w | w
    · exact h5 w
    · exact h1 w
  · rcases e3 x z with w | w
    · exact h6 w
    · exact h1 w
theorem DrT.kp {ρ ρ' : RS} {b : Nat} {N : Nat → Prop} {P : Pl} (h : DrT ρ b N P) (e : ∀ k, rO ρ' b k = rO ρ b k) (s : Sme N ρ ρ') : DrT ρ' b N P := ⟨h.1.kp (e 8) s, h.2.1.kp (e 9) s, h.2.2.kp (e 10) s⟩
theorem DrB.kp {S : Nat → Prop} {ρ ρ' : RS} {b ha lt lp ll n : Nat} {P : Pl} (h : DrB ρ b ha lt lp ll P n) (g : Chg S ρ ρ') (hS : ¬ S b) : DrB ρ' b ha lt lp ll P n ∧ ∀ k, rO ρ' b k = rO ρ b k := by
  have e := g.2 b (by rw [h.1]; decide) hS
  obtain ⟨h1, h2, h3⟩ := h
  exact ⟨⟨by rw [e.1]; exact h1, by rw [e.2.2.1, e.2.2.1, e.2.2.1, e.2.2.1]; exact h2, by rw [e.2.2.2.2, e.2.2.2.2, e.2.2.2.2, e.2.2.2.2]; exact h3⟩, e.2.2.2.2⟩
/-- reading on changes nothing in it -/
theorem xDr.old {M : Nat → Prop} {ρ ρ' : RS} {b n : Nat} {D : Dr} (h : xDr M ρ b D n) (o : Old ρ ρ') : xDr M ρ' b D n := by
  obtain ⟨ha, lt, lp, ll, ct, cp, cl, ta, pa, aa, N, hM, h1, h2, h3, h4, h5⟩ := h
  have g := o.c2
  obtain ⟨b1, b2⟩ := h1.kp g (fun z => z)
  obtain ⟨l1, l2, l3, l4⟩ := h3.kp g (fun x z => z.elim)
  obtain ⟨n1, n2⟩ := h4.kp g (fun x _ z => z) (fun x z => Or.inl (by rw [l2] at z; exact z)) (fun x z => Or.inl (by rw [l3] at z; exact z)) (fun x z => Or.inl (by rw [l4] at z; exact z))
  exact ⟨ha, lt, lp, ll, ct, cp, cl, ta, pa, aa, N, hM, b1, h2.kp g (fun z => z), l1, n1, h5.kp b2 n2⟩
/-- one more statement; how many a cell may hold -/
theorem xDr.cnt {M : Nat → Prop} {ρ : RS} {b n : Nat} {D : Dr} (h : xDr M ρ b D n) (m : Nat) : xDr M (tI ρ b 0 (nI m)) b D m := by
  obtain ⟨ha, lt, lp, ll, ct, cp, cl, ta, pa, aa, N, hM, h1, h2, h3, h4, h5⟩ := h
  have g : Chg (fun x => x = b) ρ (tI ρ b 0 (nI m)) := Chg.tI _ _ _ rfl
  have kb := h1.1
  obtain ⟨l1, l2, l3, l4⟩ := h3.kp g (fun x z => Or.inl (by rw [show x = b from z]; exact kb))
  obtain ⟨n1, n2⟩ := h4.kp g (fun x hx => (h4 x hx).2.1) (fun x z => Or.inl (by rw [l2] at z; exact z)) (fun x z => Or.inl (by rw [l3] at z; exact z)) (fun x z => Or.inl (by rw [l4] at z; exact z))
  refine ⟨ha, lt, lp, ll, ct, cp, cl, ta, pa, aa, N, hM, ⟨kb, ⟨by rw [rI_tI, if_pos ⟨rfl, rfl⟩], ?_, ?_, ?_⟩, h1.2.2⟩, h2.kp g (fun z => by have := h2.1; rw [show ha = b from z, kb] at this; cases this), l1, n1, h5.kp (fun _ => rfl) n2⟩
  · rw [rI_tI, if_neg (by omega)]; exact h1.2.1.2.1
  · rw [rI_tI, if_neg (by omega)]; exact h1.2.1.2.2.1
  · rw [rI_tI, if_neg (by omega)]; exact h1.2.1.2.2.2
theorem xDr.crowd {M : Nat → Prop} {ρ : RS} {b n : Nat} {D : Dr} (h : xDr M ρ b D n) (m : Nat) : xDr M (tI ρ b 3 (nI m)) b (setW D.1 m, D.2) n := by
  obtain ⟨ha, lt, lp, ll, ct, cp, cl, ta, pa, aa, N, hM, h1, h2, h3, h4, h5⟩ := h
  have g : Chg (fun x => x = b) ρ (tI ρ b 3 (nI m)) := Chg.tI _ _ _ rfl
  have kb := h1.1
  obtain ⟨l1, l2, l3, l4⟩ := h3.kp g (fun x z => Or.inl (by rw [show x = b from z]; exact kb))
  obtain ⟨n1, n2⟩ := h4.kp g (fun x hx => (h4 x hx).2.1) (fun x z => Or.inl (by rw [l2] at z; exact z)) (fun x z => Or.inl (by rw [l3] at z; exact z)) (fun x z => Or.inl (by rw [l4] at z; exact z))
  refine ⟨ha, lt, lp, ll, ct, cp, cl, ta, pa, aa, N, hM, ⟨kb, ⟨?_, ?_, ?_, by rw [rI_tI, if_pos ⟨rfl, rfl⟩]; rfl⟩, h1.2.2⟩, h2.kp g (fun z => by have := h2.1; rw [show ha = b from z, kb] at this; cases this), l1, n1, h5.kp (fun _ => rfl) n2⟩
  · rw [rI_tI, if_neg (by omega)]; exact h1.2.1.1
  · rw [rI_tI, if_neg (by omega)]; exact h1.2.1.2.1
  · rw [rI_tI, if_neg (by omega)]; exact h1.2.1.2.2.1
/-- a height -/
theorem xDr.high {M : Nat → Prop} {ρ : RS} {b n : Nat} {D : Dr} (h : xDr M ρ b D n) : ∃ ha, rO ρ b 4 = some ha ∧ rk ρ ha = 101 ∧ rn ρ ha = 64 ∧ ¬ M ha ∧ ∀ q v, xDr M (tI ρ ha q (nI v)) b (D.1, up (dH D) q v, D.2.2) n := by
  obtain ⟨ha, lt, lp, ll, ct, cp, cl, ta, pa, aa, N, hM, h1, h2, h3, h4, h5⟩ := h
  refine ⟨ha, h1.2.2.1, h2.1, h2.2.1, fun z => (h4 _ (hM _ z)).2.2.1 rfl, fun q v => ?_⟩
  have g : Chg (fun x => x = ha) ρ (tI ρ ha q (nI v)) := Chg.tI _ _ _ rfl
  obtain ⟨b1, b2⟩ := h1.kp g (fun z => by have := h1.1; rw [show b = ha from z, h2.1] at this; cases this)
  obtain ⟨l1, l2, l3, l4⟩ := h3.kp g (fun x z => Or.inr (Or.inl (by rw [show x = ha from z]; exact h2.1)))
  obtain ⟨n1, n2⟩ := h4.kp g (fun x hx => (h4 x hx).2.2.1) (fun x z => Or.inl (by rw [l2] at z; exact z)) (fun x z => Or.inl (by rw [l3] at z; exact z)) (fun x z => Or.inl (by rw [l4] at z; exact z))
  refine ⟨ha, lt, lp, ll, ct, cp, cl, ta, pa, aa, N, hM, b1, ⟨h2.1, h2.2.1, fun i hi => ?_⟩, l1, n1, h5.kp b2 n2⟩
  rw [rI_tI]
  show _ = nI (up (dH D) q v i)
  unfold up
  by_cases z : i = q
  · rw [if_pos ⟨rfl, z⟩, if_pos z]
  · rw [if_neg (fun w => z w.2), if_neg z]; exact h2.2.2 i hi
theorem xDr.z {M : Nat → Prop} {ρ : RS} {b n : Nat} {D : Dr} (h : xDr M ρ b D n) : ¬ M b := by
  obtain ⟨ha, lt, lp, ll, ct, cp, cl, ta, pa, aa, N, hM, h1, h2, h3, h4, h5⟩ := h
  exact fun z => (h4 _ (hM _ z)).2.1 rfl
