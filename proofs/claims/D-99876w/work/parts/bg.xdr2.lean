/-! THE SYSTEM: a plain as it is told, what is added -/
theorem DrP.old {ρ ρ' : RS} {b ha lt lp ll ct cp cl n : Nat} {ta pa aa : List Nat} {N : Nat → Prop} {D : Dr} (h : DrP ρ b ha lt lp ll ct cp cl ta pa aa N D n) (o : Old ρ ρ') : DrP ρ' b ha lt lp ll ct cp cl ta pa aa N D n ∧ (∀ x, LSt ρ' lt x = LSt ρ lt x) ∧ (∀ x, LSt ρ' lp x = LSt ρ lp x) ∧ (∀ x, LSt ρ' ll x = LSt ρ ll x) := by
  obtain ⟨h1, h2, h3, h4, h5⟩ := h
  have g := o.c2
  obtain ⟨b1, b2⟩ := h1.kp g (fun z => z)
  obtain ⟨l1, l2, l3, l4⟩ := h3.kp g (fun x z => z.elim)
  obtain ⟨n1, n2⟩ := h4.kp g (fun x _ z => z) (fun x z => Or.inl (by rw [l2] at z; exact z)) (fun x z => Or.inl (by rw [l3] at z; exact z)) (fun x z => Or.inl (by rw [l4] at z; exact z))
  exact ⟨⟨b1, h2.kp g (fun z => z), l1, n1, h5.kp b2 n2⟩, l2, l3, l4⟩
/-- what is not there yet is none of it -/
theorem DrP.new {ρ : RS} {b ha lt lp ll ct cp cl n x : Nat} {ta pa aa : List Nat} {N : Nat → Prop} {D : Dr} (h : DrP ρ b ha lt lp ll ct cp cl ta pa aa N D n) (z : rk ρ x = 0) : x ≠ b ∧ x ≠ ha ∧ ¬ LSt ρ lt x ∧ ¬ LSt ρ lp x ∧ ¬ LSt ρ ll x ∧ x ∉ pa ∧ ¬ N x := by
  obtain ⟨h1, h2, ⟨⟨t1, t2⟩, ⟨p1, p2, p3, p4⟩, ⟨a1, a2⟩, d1, d2⟩, h4, h5⟩ := h
  have hL : ∀ la as c, LQp ρ la as c → ¬ LSt ρ la x := fun la as c hl hx => by rcases hl.k hx with v | v <;> rw [z] at v <;> cases v
  refine ⟨fun w => ?_, fun w => ?_, hL _ _ _ t1, hL _ _ _ p1, hL _ _ _ a1, fun w => ?_, fun w => (h4 x w).1 z⟩
  · have := h1.1; rw [← w, z] at this; cases this
  · have := h2.1; rw [← w, z] at this; cases this
  · have := p2.c w; rw [z] at this; cases this
theorem getE_snoc {α : Type} {l : List α} {x y : α} {k : Nat} (h : (l ++ [x])[k]? = some y) : (k < l.length ∧ l[k]? = some y) ∨ (k = l.length ∧ y = x) := by
  rcases Nat.lt_or_ge k l.length with w | w
  · rw [List.getElem?_append_left w] at h; exact Or.inl ⟨w, h⟩
  · rw [List.getElem?_append_right w] at h
    have hz : k = l.length := by
      have := (List.getElem?_eq_some_iff.mp h).1
      simp at this; omega
    subst hz
    simp at h
    exact Or.inr ⟨rfl, h.symm⟩
theorem getE_in {α : Type} {l : List α} {x y : α} {k : Nat} (h : l[k]? = some y) : (l ++ [x])[k]? = some y := by
  rw [List.getElem?_append_left (List.getElem?_eq_some_iff.mp h).1]; exact h
theorem getE_end {α : Type} {l : List α} {x : α} : (l ++ [x])[l.length]? = some x := by simp
theorem NmR.snoc {ρ : RS} {c q sa : Nat} {as : List Nat} {ws : List (List Nat)} {w : List Nat} (h : NmR ρ c as ws) (h1 : rk ρ q = c) (h2 : rO ρ q 0 = some sa) (h3 : SRep ρ sa w) : NmR ρ c (as ++ [q]) (ws ++ [w]) := by
  refine ⟨by rw [List.length_append, List.length_append, h.1]; rfl, fun k w' hk => ?_⟩
  rcases getE_snoc hk with ⟨-, z⟩ | ⟨z1, z2⟩
  · obtain ⟨a, sa', a1, a2⟩ := h.2 k w' z
    exact ⟨a, sa', getE_in a1, a2⟩
  · refine ⟨q, sa, ?_, h1, h2, by rw [z2]; exact h3⟩
    rw [z1, ← h.1]; exact getE_end
theorem AkR.snoc {ρ : RS} {q : Nat} {as : List Nat} {l : List (Nat × Nat)} {p : Nat × Nat} (h : AkR ρ as l) (h1 : rk ρ q = 10) (h2 : rI ρ q 0 = nI p.1) (h3 : rI ρ q 1 = nI p.2) : AkR ρ (as ++ [q]) (l ++ [p]) := by
  refine ⟨by rw [List.length_append, List.length_append, h.1]; rfl, fun k w' hk => ?_⟩
  rcases getE_snoc hk with ⟨-, z⟩ | ⟨z1, z2⟩
  · obtain ⟨a, a1, a2⟩ := h.2 k w' z
    exact ⟨a, getE_in a1, a2⟩
  · refine ⟨q, ?_, h1, by rw [z2]; exact h2, by rw [z2]; exact h3⟩
    rw [z1, ← h.1]; exact getE_end
theorem xDr.addT {M : Nat → Prop} {ρ0 ρ : RS} {b n q sa : Nat} {D : Dr} (h : xDr M ρ0 b D n) (o : Old ρ0 ρ) (hz : rk ρ0 q = 0) {w : List Nat} (hq1 : rk ρ q = 8) (hq2 : rO ρ q 0 = some sa) (hq3 : SRep ρ sa w) :
    ∃ la as c, rO ρ b 5 = some la ∧ LQp ρ la as c ∧ as.length = (plT D.1).length ∧ (∀ x, LSt ρ la x → ¬ M x) ∧ ∀ ρ', LQp ρ' la (as ++ [q]) (grw c as.length) → Chg (LSt ρ la) ρ ρ' → (∀ a, LSt ρ' la a → LSt ρ la a ∨ rk ρ a = 0) → xDr M ρ' b (addT D.1 w, D.2) n := by
  obtain ⟨ha, lt, lp, ll, ct, cp, cl, ta, pa, aa, N, hM, hD⟩ := h
  have hnew := hD.new hz
  obtain ⟨⟨h1, h2, ⟨⟨t1, t2⟩, ⟨p1, p2, p3, p4⟩, ⟨a1, a2⟩, d1, d2⟩, h4, h5⟩, -, -, -⟩ := hD.old o
  refine ⟨lt, ta, ct, h1.2.2.2.1, t1, t2.1, fun x hx z => (h4 x (hM x z)).2.2.2.1 hx, fun ρ' hl g hs => ?_⟩
  have hk : ∀ x, LSt ρ lt x → rk ρ x = 7 ∨ rk ρ x = 109 := fun x hx => t1.k hx
  have hrc : ∀ x, LSt ρ lt x → rc ρ x ≠ 11 ∧ rc ρ x ≠ 102 := fun x hx => by rcases hk x hx with v | v <;> exact rcN v (by decide) (by decide)
  have hne : ∀ x κ, rk ρ x = κ → κ ≠ 7 → κ ≠ 109 → ¬ LSt ρ lt x := fun x κ hx c1 c2 z => by have := hk x z; omega
  obtain ⟨b1, b2⟩ := h1.kp g (hne b 2 h1.1 (by decide) (by decide))
  have hq : Eqa ρ ρ' q := g.2 q (by rw [hq1]; decide) (hne q _ hq1 (by decide) (by decide))
  obtain ⟨pL, pE⟩ := p1.kp g (fun x hx z => (d1 x z).1 hx)
  obtain ⟨a3, a4⟩ := a1.kp g (fun x hx z => (d1 x z).2 hx)
  have nt := t2.kp (by decide) g hrc (fun x hx => hne x 8 (t2.c hx) (by decide) (by decide))
  have np := p2.kp (by decide) g hrc (fun x hx => hne x 9 (p2.c hx) (by decide) (by decide))
  have pe := p3.kp g (fun x hx => hne x 9 (p2.c hx) (by decide) (by decide))
  have ak := a2.kp g (fun x hx => by have := hk x hx; omega)
  obtain ⟨n1, n2⟩ := h4.kp g (fun x hx => (h4 x hx).2.2.2.1) hs (fun x z => Or.inl (by rw [pE] at z; exact z)) (fun x z => Or.inl (by rw [a4] at z; exact z))
  refine ⟨ha, lt, lp, ll, (grw ct ta.length), cp, cl, (ta ++ [q]), pa, aa, N, hM, b1, h2.kp g (hne ha 101 h2.1 (by decide) (by decide)), ⟨⟨hl, nt.snoc (by rw [hq.1]; exact hq1) (by rw [hq.2.2.2.2]; exact hq2) (hq3.kp g hrc)⟩, ⟨pL, np, pe, p4⟩, ⟨a3, ak⟩, fun x hx => ?_, fun x hx => ?_⟩, n1, h5.kp b2 n2⟩
  · rw [pE, a4]
    rcases hs x hx with w | w
    · exact d1 x w
    · exact ⟨(fun u => by rcases p1.k u with v | v <;> rw [w] at v <;> cases v), (fun u => by rcases a1.k u with v | v <;> rw [w] at v <;> cases v)⟩
  · rw [pE] at hx
    rw [a4]; exact d2 x hx
theorem xDr.addL {M : Nat → Prop} {ρ0 ρ : RS} {b n q : Nat} {D : Dr} (h : xDr M ρ0 b D n) (o : Old ρ0 ρ) (hz : rk ρ0 q = 0) {p : Nat × Nat} (hq1 : rk ρ q = 10) (hq2 : rI ρ q 0 = nI p.1) (hq3 : rI ρ q 1 = nI p.2) :
    ∃ la as c, rO ρ b 7 = some la ∧ LQp ρ la as c ∧ as.length = (plL D.1).length ∧ (∀ x, LSt ρ la x → ¬ M x) ∧ ∀ ρ', LQp ρ' la (as ++ [q]) (grw c as.length) → Chg (LSt ρ la) ρ ρ' → (∀ a, LSt ρ' la a → LSt ρ la a ∨ rk ρ a = 0) → xDr M ρ' b (addL D.1 p, D.2) n := by
  obtain ⟨ha, lt, lp, ll, ct, cp, cl, ta, pa, aa, N, hM, hD⟩ := h
  have hnew := hD.new hz
  obtain ⟨⟨h1, h2, ⟨⟨t1, t2⟩, ⟨p1, p2, p3, p4⟩, ⟨a1, a2⟩, d1, d2⟩, h4, h5⟩, -, -, -⟩ := hD.old o
  refine ⟨ll, aa, cl, h1.2.2.2.2.2, a1, a2.1, fun x hx z => (h4 x (hM x z)).2.2.2.2.2.1 hx, fun ρ' hl g hs => ?_⟩
  have hk : ∀ x, LSt ρ ll x → rk ρ x = 7 ∨ rk ρ x = 109 := fun x hx => a1.k hx
  have hrc : ∀ x, LSt ρ ll x → rc ρ x ≠ 11 ∧ rc ρ x ≠ 102 := fun x hx => by rcases hk x hx with v | v <;> exact rcN v (by decide) (by decide)
  have hne : ∀ x κ, rk ρ x = κ → κ ≠ 7 → κ ≠ 109 → ¬ LSt ρ ll x := fun x κ hx c1 c2 z => by have := hk x z; omega
  obtain ⟨b1, b2⟩ := h1.kp g (hne b 2 h1.1 (by decide) (by decide))
  have hq : Eqa ρ ρ' q := g.2 q (by rw [hq1]; decide) (hne q _ hq1 (by decide) (by decide))
  obtain ⟨t3, t4⟩ := t1.kp g (fun x hx z => (d1 x hx).2 z)
  obtain ⟨pL, pE⟩ := p1.kp g (fun x hx z => d2 x hx z)
  have nt := t2.kp (by decide) g hrc (fun x hx => hne x 8 (t2.c hx) (by decide) (by decide))
  have np := p2.kp (by decide) g hrc (fun x hx => hne x 9 (p2.c hx) (by decide) (by decide))
  have pe := p3.kp g (fun x hx => hne x 9 (p2.c hx) (by decide) (by decide))
  have ak := a2.kp g (fun x hx => by have := hk x hx; omega)
  obtain ⟨n1, n2⟩ := h4.kp g (fun x hx => (h4 x hx).2.2.2.2.2.1) (fun x z => Or.inl (by rw [t4] at z; exact z)) (fun x z => Or.inl (by rw [pE] at z; exact z)) hs
  refine ⟨ha, lt, lp, ll, ct, cp, (grw cl aa.length), ta, pa, (aa ++ [q]), N, hM, b1, h2.kp g (hne ha 101 h2.1 (by decide) (by decide)), ⟨⟨t3, nt⟩, ⟨pL, np, pe, p4⟩, ⟨hl, ak.snoc (by rw [hq.1]; exact hq1) (by rw [hq.2.2.1]; exact hq2) (by rw [hq.2.2.1]; exact hq3)⟩, fun x hx => ?_, fun x hx => ?_⟩, n1, h5.kp b2 n2⟩
  · rw [t4] at hx
    refine ⟨by rw [pE]; exact (d1 x hx).1, fun u => ?_⟩
    rcases hs x u with w | w
    · exact (d1 x hx).2 w
    · rcases t1.k hx with v | v <;> rw [w] at v <;> cases v
  · rw [pE] at hx
    intro u
    rcases hs x u with w | w
    · exact d2 x hx w
    · rcases p1.k hx with v | v <;> rw [w] at v <;> cases v
theorem xDr.addN {M : Nat → Prop} {ρ0 ρ : RS} {b n q sa ca tr : Nat} {D : Dr} (h : xDr M ρ0 b D n) (o : Old ρ0 ρ) (hz : rk ρ0 q = 0) {w : List Nat} (hq1 : rk ρ q = 9) (hq2 : rO ρ q 0 = some sa) (hq3 : SRep ρ sa w) (hq4 : rI ρ q 1 = nI ca ∧ rI ρ q 2 = nI tr ∧ rI ρ q 3 = nI 0) :
    ∃ la as c, rO ρ b 6 = some la ∧ LQp ρ la as c ∧ as.length = (plN D.1).length ∧ (∀ x, LSt ρ la x → ¬ M x) ∧ ∀ ρ', LQp ρ' la (as ++ [q]) (grw c as.length) → Chg (LSt ρ la) ρ ρ' → (∀ a, LSt ρ' la a → LSt ρ la a ∨ rk ρ a = 0) → xDr M ρ' b (addN D.1 w, dH D, up (dA D) (nP D.1) ca, up (dT D) (nP D.1) tr, up (dK D) (nP D.1) 0) n := by
  obtain ⟨ha, lt, lp, ll, ct, cp, cl, ta, pa, aa, N, hM, hD⟩ := h
  have hnew := hD.new hz
  obtain ⟨⟨h1, h2, ⟨⟨t1, t2⟩, ⟨p1, p2, p3, p4⟩, ⟨a1, a2⟩, d1, d2⟩, h4, h5⟩, -, -, -⟩ := hD.old o
  refine ⟨lp, pa, cp, h1.2.2.2.2.1, p1, p2.1, fun x hx z => (h4 x (hM x z)).2.2.2.2.1 hx, fun ρ' hl g hs => ?_⟩
  have hk : ∀ x, LSt ρ lp x → rk ρ x = 7 ∨ rk ρ x = 109 := fun x hx => p1.k hx
  have hrc : ∀ x, LSt ρ lp x → rc ρ x ≠ 11 ∧ rc ρ x ≠ 102 := fun x hx => by rcases hk x hx with v | v <;> exact rcN v (by decide) (by decide)
  have hne : ∀ x κ, rk ρ x = κ → κ ≠ 7 → κ ≠ 109 → ¬ LSt ρ lp x := fun x κ hx c1 c2 z => by have := hk x z; omega
  obtain ⟨b1, b2⟩ := h1.kp g (hne b 2 h1.1 (by decide) (by decide))
  have hq : Eqa ρ ρ' q := g.2 q (by rw [hq1]; decide) (hne q _ hq1 (by decide) (by decide))
  obtain ⟨t3, t4⟩ := t1.kp g (fun x hx z => (d1 x hx).1 z)
  obtain ⟨a3, a4⟩ := a1.kp g (fun x hx z => d2 x z hx)
  have nt := t2.kp (by decide) g hrc (fun x hx => hne x 8 (t2.c hx) (by decide) (by decide))
  have np := p2.kp (by decide) g hrc (fun x hx => hne x 9 (p2.c hx) (by decide) (by decide))
  have pe := p3.kp g (fun x hx => hne x 9 (p2.c hx) (by decide) (by decide))
  have ak := a2.kp g (fun x hx => by have := hk x hx; omega)
  obtain ⟨n1, n2⟩ := h4.kp g (fun x hx => (h4 x hx).2.2.2.2.1) (fun x z => Or.inl (by rw [t4] at z; exact z)) hs (fun x z => Or.inl (by rw [a4] at z; exact z))
  refine ⟨ha, lt, lp, ll, ct, (grw cp pa.length), cl, ta, (pa ++ [q]), aa, N, hM, b1, h2.kp g (hne ha 101 h2.1 (by decide) (by decide)), ⟨⟨t3, nt⟩, ⟨hl, np.snoc (by rw [hq.1]; exact hq1) (by rw [hq.2.2.2.2]; exact hq2) (hq3.kp g hrc), ?_, ?_⟩, ⟨a3, ak⟩, fun x hx => ?_, fun x hx => ?_⟩, ?_, h5.kp b2 n2⟩
  · intro k a hk'
    have hlen : pa.length = nP D.1 := p2.1
    rcases getE_snoc hk' with ⟨z1, z⟩ | ⟨z1, z2⟩
    · have hkp : ¬ k = nP D.1 := by omega
      obtain ⟨y1, y2, y3, y4⟩ := pe k a z
      refine ⟨y1, ?_, ?_, ?_⟩
      · show _ = nI (up (dA D) (nP D.1) ca k); unfold up; rw [if_neg hkp]; exact y2
      · show _ = nI (up (dT D) (nP D.1) tr k); unfold up; rw [if_neg hkp]; exact y3
      · show _ = nI (up (dK D) (nP D.1) 0 k); unfold up; rw [if_neg hkp]; exact y4
    · have hkp : k = nP D.1 := by omega
      rw [z2]
      refine ⟨by rw [hq.1]; exact hq1, ?_, ?_, ?_⟩
      · show _ = nI (up (dA D) (nP D.1) ca k); unfold up; rw [if_pos hkp, hq.2.2.1]; exact hq4.1
      · show _ = nI (up (dT D) (nP D.1) tr k); unfold up; rw [if_pos hkp, hq.2.2.1]; exact hq4.2.1
      · show _ = nI (up (dK D) (nP D.1) 0 k); unfold up; rw [if_pos hkp, hq.2.2.1]; exact hq4.2.2
  · rw [List.nodup_append]
    refine ⟨p4, by simp, fun a ha' b' hb' e => ?_⟩
    simp at hb'
    rw [e, hb'] at ha'
    exact hnew.2.2.2.2.2.1 ha'
  · rw [t4] at hx
    refine ⟨fun u => ?_, by rw [a4]; exact (d1 x hx).2⟩
    rcases hs x u with w | w
    · exact (d1 x hx).1 w
    · rcases t1.k hx with v | v <;> rw [w] at v <;> cases v
  · rw [a4]
    rcases hs x hx with w | w
    · exact d2 x w
    · intro u
      rcases a1.k u with v | v <;> rw [w] at v <;> cases v
  · intro x hx
    obtain ⟨y1, y2, y3, y4, y5, y6, y7⟩ := n1 x hx
    refine ⟨y1, y2, y3, y4, y5, y6, fun w => ?_⟩
    rcases List.mem_append.mp w with u | u
    · exact y7 u
    · simp at u
      rw [u] at hx
      exact hnew.2.2.2.2.2.2 hx
/-- what a person knows -/
theorem xDr.know {M : Nat → Prop} {ρ : RS} {b n p : Nat} {D : Dr} (h : xDr M ρ b D n) (hp : p < nP D.1) : ∃ lp pa cp a, rO ρ b 6 = some lp ∧ LQp ρ lp pa cp ∧ pa[p]? = some a ∧ rk ρ a = 9 ∧ rI ρ a 3 = nI (dK D p) ∧ ¬ M a ∧ ∀ v, xDr M (tI ρ a 3 (nI v)) b (D.1, dH D, dA D, dT D, up (dK D) p v) n := by
  obtain ⟨ha, lt, lp, ll, ct, cp, cl, ta, pa, aa, N, hM, h1, h2, ⟨⟨t1, t2⟩, ⟨p1, p2, p3, p4⟩, ⟨a1, a2⟩, d1, d2⟩, h4, h5⟩ := h
  have hlen : pa.length = nP D.1 := p2.1
  have hpa := List.getElem?_eq_getElem (show p < pa.length by omega)
  obtain ⟨k1, k2, k3, k4⟩ := p3 p _ hpa
  have hm := List.mem_of_getElem? hpa
  refine ⟨lp, pa, cp, pa[p], h1.2.2.2.2.1, p1, hpa, k1, k4, fun z => (h4 _ (hM _ z)).2.2.2.2.2.2 hm, fun v => ?_⟩
  generalize hA : pa[p] = a at *
  have g : Chg (fun x => x = a) ρ (tI ρ a 3 (nI v)) := Chg.tI _ _ _ rfl
  have hne : ∀ x κ, rk ρ x = κ → κ ≠ 9 → ¬ x = a := fun x κ hx c z => by rw [z, k1] at hx; omega
  have hL : ∀ la as c, LQp ρ la as c → ∀ x, LSt ρ la x → ¬ x = a := fun la as c hl x hx => by rcases hl.k hx with w | w <;> exact hne x _ w (by decide)
  have hrc : ∀ x, (fun x => x = a) x → rc ρ x ≠ 11 ∧ rc ρ x ≠ 102 := fun x hx => rcN (c := 9) (by rw [show x = a from hx]; exact k1) (by decide) (by decide)
  obtain ⟨b1, b2⟩ := h1.kp g (hne b 2 h1.1 (by decide))
  obtain ⟨t3, t4⟩ := t1.kp g (hL _ _ _ t1)
  obtain ⟨pL, pE⟩ := p1.kp g (hL _ _ _ p1)
  obtain ⟨a3, a4⟩ := a1.kp g (hL _ _ _ a1)
  obtain ⟨n1, n2⟩ := h4.kp g (fun x hx z => (h4 x hx).2.2.2.2.2.2 (by rw [show x = a from z]; exact hm)) (fun x z => Or.inl (by rw [t4] at z; exact z)) (fun x z => Or.inl (by rw [pE] at z; exact z)) (fun x z => Or.inl (by rw [a4] at z; exact z))
  refine ⟨ha, lt, lp, ll, ct, cp, cl, ta, pa, aa, N, hM, b1, h2.kp g (hne ha 101 h2.1 (by decide)), ⟨⟨t3, t2.kp (by decide) g hrc (fun x hx => hne x 8 (t2.c hx) (by decide))⟩, ⟨pL, ⟨p2.1, fun k w hk => ?_⟩, fun k x hk => ?_, p4⟩, ⟨a3, a2.kp g (fun x hx => by rw [show x = a from hx, k1]; decide)⟩, fun x hx => ?_, fun x hx => ?_⟩, n1, h5.kp b2 n2⟩
  · obtain ⟨x, sa, x1, x2, x3, x4⟩ := p2.2 k w hk
    exact ⟨x, sa, x1, x2, x3, x4.kp g hrc⟩
  · obtain ⟨y1, y2, y3, y4⟩ := p3 k x hk
    refine ⟨y1, ?_, ?_, ?_⟩
    · rw [rI_tI, if_neg (by omega)]; exact y2
    · rw [rI_tI, if_neg (by omega)]; exact y3
    · rw [rI_tI]
      show _ = nI (up (dK D) p v k)
      unfold up
      by_cases z : k = p
      · rw [z, hpa] at hk
        cases hk
        rw [if_pos ⟨rfl, rfl⟩, if_pos z]
      · rw [if_neg (fun w => z ?_), if_neg z]
        · exact y4
        · have e1 := (List.getElem?_eq_some_iff.mp hk)
          have e2 := (List.getElem?_eq_some_iff.mp hpa)
          exact (List.getElem_inj p4).mp (e1.2.trans (w.1.trans e2.2.symm))
  · rw [t4] at hx
    rw [pE, a4]; exact d1 x hx
  · rw [pE] at hx
    rw [a4]; exact d2 x hx
/-- a rule is told -/
theorem xDr.rule {M : Nat → Prop} {ρ0 ρ : RS} {b n i d b0 x : Nat} {D : Dr} {N' : Nat → Prop} {cs : List Nat} (h : xDr M ρ0 b D n) (o : Old ρ0 ρ) (hi : i < 3) (hd : d ≤ DP) (V : if i = 2 then TTs al0 b0 d N' ρ x cs else VTs (if i = 0 then al1 else al0) b0 d N' ρ x cs) (hz : ∀ y, N' y → rk ρ0 y = 0) : xDr M (tO ρ b (8 + i) (some x)) b (setC D.1 i cs, D.2) n := by
  obtain ⟨ha, lt, lp, ll, ct, cp, cl, ta, pa, aa, N, hM, hD⟩ := h
  obtain ⟨⟨h1, h2, h3, h4, h5⟩, e1, e2, e3⟩ := hD.old o
  have g : Chg (fun x => x = b) ρ (tO ρ b (8 + i) (some x)) := Chg.tO _ _ _ rfl
  have kb := h1.1
  have vN : ∀ y, N' y → rk ρ y ≠ 0 := fun y hy => by
    by_cases z : i = 2
    · rw [if_pos z] at V; exact V.1 y hy
    · rw [if_neg z] at V; exact V.1 y hy
  have h4' : DrN ρ b ha lt lp ll pa (fun y => N y ∨ N' y) := by
    intro y hy
    rcases hy with w | w
    · exact h4 y w
    · obtain ⟨y1, y2, y3, y4, y5, y6, -⟩ := hD.new (hz y w)
      exact ⟨vN y w, y1, y2, by rw [e1]; exact y3, by rw [e2]; exact y4, by rw [e3]; exact y5, y6⟩
  obtain ⟨l1, l2, l3, l4⟩ := h3.kp g (fun x z => Or.inl (by rw [show x = b from z]; exact kb))
  obtain ⟨n1, n2⟩ := h4'.kp g (fun x hx => (h4' x hx).2.1) (fun x z => Or.inl (by rw [l2] at z; exact z)) (fun x z => Or.inl (by rw [l3] at z; exact z)) (fun x z => Or.inl (by rw [l4] at z; exact z))
  have oo : ∀ k, k ≠ 8 + i → rO (tO ρ b (8 + i) (some x)) b k = rO ρ b k := fun k hk => by rw [rO_tO, if_neg (fun q => hk q.2)]
  have on : rO (tO ρ b (8 + i) (some x)) b (8 + i) = some x := by rw [rO_tO, if_pos ⟨rfl, rfl⟩]
  refine ⟨ha, lt, lp, ll, ct, cp, cl, ta, pa, aa, (fun y => N y ∨ N' y), fun x hx => Or.inl (hM x hx), ⟨kb, ?_, ?_⟩, h2.kp g (fun z => by have := h2.1; rw [show ha = b from z, kb] at this; cases this), ?_, n1, ?_⟩
  · rcases (show i = 0 ∨ i = 1 ∨ i = 2 by omega) with rfl | rfl | rfl <;> exact h1.2.1
  · rw [oo 4 (by omega), oo 5 (by omega), oo 6 (by omega), oo 7 (by omega)]; exact h1.2.2
  · rcases (show i = 0 ∨ i = 1 ∨ i = 2 by omega) with rfl | rfl | rfl <;> exact l1
  · obtain ⟨r1, r2, r3⟩ := h5
    have w1 : ∀ y, N y → (fun y => N y ∨ N' y) y := fun y hy => Or.inl hy
    have s1 : Sme N' ρ (tO ρ b (8 + i) (some x)) := fun y hy => n2 y (Or.inr hy)
    rcases (show i = 0 ∨ i = 1 ∨ i = 2 by omega) with rfl | rfl | rfl
    · refine ⟨Or.inr ⟨cs, x, rfl, on, fun ρ' hs => ?_⟩, (r2.wide w1).kp (oo 9 (by omega)) n2, (r3.wide w1).kp (oo 10 (by omega)) n2⟩
      exact (VT.b0 rfl rfl _ _ _).1 ((VT.up2 hd x cs).1 (V.2 ρ' (s1.trans (fun y hy => hs y (Or.inr hy)))))
    · refine ⟨(r1.wide w1).kp (oo 8 (by omega)) n2, Or.inr ⟨cs, x, rfl, on, fun ρ' hs => ?_⟩, (r3.wide w1).kp (oo 10 (by omega)) n2⟩
      exact (VT.b0 rfl rfl _ _ _).1 ((VT.up2 hd x cs).1 (V.2 ρ' (s1.trans (fun y hy => hs y (Or.inr hy)))))
    · refine ⟨(r1.wide w1).kp (oo 8 (by omega)) n2, (r2.wide w1).kp (oo 9 (by omega)) n2, Or.inr ⟨cs, x, rfl, on, fun ρ' hs => ?_⟩⟩
      exact (VT.b0 rfl rfl _ _ _).2 ((VT.up2 hd x cs).2 (V.2 ρ' (s1.trans (fun y hy => hs y (Or.inr hy)))))
