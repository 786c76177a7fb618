/-! THE SYSTEM: a person, told -/
def kPers (pl : Nat) (t : Nat → Nat) (e : Nat) (D : Dr) (a : Nat) : PR Dr := if nP D.1 = 7 then .inr (5, pl) else
  pB (pNew D.1 t e a) (fun w b => pB (pExp (str 16) t e b) (fun _ b2 => pB (pCell D.1 t e b2) (fun q b3 => if tkn D q.1 = true then .inr (2, q.2) else
    pB (pExp (str 17) t e b3) (fun _ b4 => pB (pNum 0 9 t e b4) (fun v b5 => .inl ((addN D.1 w, dH D, up (dA D) (nP D.1) q.1, up (dT D) (nP D.1) v.1, up (dK D) (nP D.1) 0), b5))))))
theorem pPers_k {t : Nat → Nat} {e a pl : Nat} {D : Dr} : pPers D pl t e a = pB (kPers pl t e D a) (fun D' b => pFin D' t e b) := by
  unfold pPers kPers
  split
  · rfl
  · rw [pB_assoc]
    congr 1
    funext q b
    rw [pB_assoc]
    congr 1
    funext q2 b2
    rw [pB_assoc]
    congr 1
    funext q3 b3
    split
    · rfl
    · rw [pB_assoc]
      congr 1
      funext q4 b4
      rw [pB_assoc]
      rfl
/-- what a reading may need, step by step: it goes on only where it stands -/
def nd (t : Nat → Nat) (e : Nat) (k n : Nat) {α : Type} (x : PR α) (a : Nat) : Prop := (∀ y p, x = .inl (y, p) → 80 * (p - a) + 40 ≤ k ∧ 600 * (p - a) + 400 ≤ n) ∧ ∀ q, x = .inr q → 80 * (e - a) + 160 ≤ k ∧ 600 * (e - a) + 1800 ≤ n
theorem nd.lo {t : Nat → Nat} {e k n a : Nat} {α : Type} {x : PR α} (h : nd t e k n x a) : 40 ≤ k ∧ 400 ≤ n := by
  cases hx : x with
  | inl q => obtain ⟨y, p⟩ := q; have := h.1 y p hx; omega
  | inr q => have := h.2 q hx; omega
theorem nd.at {t : Nat → Nat} {e k n a p : Nat} {α : Type} {x : PR α} (h : nd t e k n x a) (hp : p ≤ e) (ha : a ≤ p) (hx : ∀ y q, x = .inl (y, q) → p + nx t e p ≤ q) : 600 * (p + nx t e p - a) + 400 ≤ n := by
  cases hc : x with
  | inl q =>
    obtain ⟨y, q⟩ := q
    have h1 := h.1 y q hc
    have h2 := hx y q hc
    omega
  | inr q =>
    have h1 := h.2 q hc
    have := nx_le (t := t) hp
    omega
theorem cell_adv {P : Pl} {t : Nat → Nat} {e a p : Nat} {q : Nat × Nat} (ha : a ≤ e) (h : pCell P t e a = .inl (q, p)) : a < p ∧ p ≤ e := by
  obtain ⟨x, b1, h1, h2⟩ := pB_ok h
  obtain ⟨y, b2, h3, h4⟩ := pB_ok h2
  cases h4
  have q1 := pNum_ok ha h1
  have q2 := pNum_ok q1.2.2.1 h3
  omega
theorem new_adv {P : Pl} {t : Nat → Nat} {e a p : Nat} {w : List Nat} (ha : a ≤ e) (h : pNew P t e a = .inl (w, p)) : a + nx t e a ≤ p ∧ a < p ∧ p ≤ e := by
  have h0 := nx_new ha h
  obtain ⟨x, b1, h1, h2⟩ := pB_ok h
  have h9 : a < b1 ∧ b1 ≤ e := by
    obtain ⟨y, b2, h3, h4⟩ := pB_ok h1
    have l1 := (lk_spec (t := t) ha).1
    have : a < b2 ∧ b2 ≤ e := by
      unfold pWord at h3
      split at h3
      · rename_i z
        cases h3
        have := wE_spec z.1
        exact ⟨by omega, this.2.1⟩
      · cases h3
    split at h4
    · cases h4
    · split at h4
      · cases h4
      · cases h4; exact this
  split at h2
  · cases h2
  · cases h2; omega
/-- the last of it: how tired -/
def kP3 (t : Nat → Nat) (e : Nat) (D : Dr) (w : List Nat) (c b3 : Nat) : PR Dr := pB (pExp (str 17) t e b3) (fun _ b4 => pB (pNum 0 9 t e b4) (fun v b5 => .inl ((addN D.1 w, dH D, up (dA D) (nP D.1) c, up (dT D) (nP D.1) v.1, up (dK D) (nP D.1) 0), b5)))
def kP2 (t : Nat → Nat) (e : Nat) (D : Dr) (w : List Nat) (b2 : Nat) : PR Dr := pB (pCell D.1 t e b2) (fun q b3 => if tkn D q.1 = true then .inr (2, q.2) else kP3 t e D w q.1 b3)
def kP1 (t : Nat → Nat) (e : Nat) (D : Dr) (w : List Nat) (b : Nat) : PR Dr := pB (pExp (str 16) t e b) (fun _ b2 => kP2 t e D w b2)
theorem kP_e {t : Nat → Nat} {e a pl : Nat} {D : Dr} (h : ¬ nP D.1 = 7) : kPers pl t e D a = pB (pNew D.1 t e a) (fun w b => kP1 t e D w b) := by
  unfold kPers
  rw [if_neg h]
  rfl
theorem kP3_adv {t : Nat → Nat} {e a p c : Nat} {D D' : Dr} {w : List Nat} (ha : a ≤ e) (h : kP3 t e D w c a = .inl (D', p)) : a + nx t e a ≤ p ∧ p ≤ e := by
  obtain ⟨x, b1, h1, h2⟩ := pB_ok h
  have q1 := nx_exp ha h1
  obtain ⟨y, b2, h3, h4⟩ := pB_ok h2
  have q2 := pNum_ok q1.2.2 h3
  cases h4
  omega
theorem kP2_adv {t : Nat → Nat} {e a p : Nat} {D D' : Dr} {w : List Nat} (ha : a ≤ e) (h : kP2 t e D w a = .inl (D', p)) : a ≤ p ∧ p ≤ e := by
  obtain ⟨x, b1, h1, h2⟩ := pB_ok h
  have q1 := cell_adv ha h1
  split at h2
  · cases h2
  · have := kP3_adv q1.2 h2
    omega
theorem kP1_adv {t : Nat → Nat} {e a p : Nat} {D D' : Dr} {w : List Nat} (ha : a ≤ e) (h : kP1 t e D w a = .inl (D', p)) : a + nx t e a ≤ p ∧ p ≤ e := by
  obtain ⟨x, b1, h1, h2⟩ := pB_ok h
  have q1 := nx_exp ha h1
  have := kP2_adv q1.2.2 h2
  omega
