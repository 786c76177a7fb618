/-! THE SYSTEM's MEMORY: a keyed part (ShrugHills, reader, fault, moments, states, their arrays) and a raw part by addresses (what is read and made) -/
def TX19 : u_T := fun _ => ("", "", "", false)
theorem in_X19 : ∀ w ∈ u_ws RX19 TX19 0, w ∈ lw_all := fun w h => absurd h (by simp [u_ws])
abbrev xcl : List vw_C := [(RX0, TX0, 26), (RX1, TX1, 11), (RX2, TX2, 8), (RX3, TX3, 8), (RX4, TX4, 1), (RX5, TX5, 9), (RJ2, TJ2, 3), (RX7, TX7, 1), (RX8, TX8, 4), (RX9, TX9, 2), (RJ6, TJ6, 4), (RX11, TX11, 2), (RX12, TX12, 3), (RX13, TX13, 1), (RX14, TX14, 1), (RX15, TX15, 3), (RJ15, TJ15, 4), (RX17, TX17, 2), (RX18, TX18, 1), (RX19, TX19, 0), (RX20, TX20, 3), (RX21, TX21, 5)]
def xfk : List (List Nat) := [[4, 2, 0, 0, 0, 3, 3, 3, 2, 3, 3, 2, 2, 2, 2, 2, 2, 2, 0, 2, 2, 0, 1, 0, 2, 0], [0, 0, 0, 0, 4, 4, 4, 4, 4, 4, 4], [3, 0, 0, 0, 0, 0, 4, 3], [4, 4, 4, 4, 4, 0, 0, 0], [2], [0, 0, 0, 2, 2, 2, 2, 2, 3], [0, 4, 0], [4], [4, 0, 0, 0], [0, 0], [4, 0, 0, 0], [4, 4], [0, 4, 4], [1], [0], [0, 4, 5], [4, 0, 0, 0], [4, 0], [4], [], [4, 4, 0], [0, 4, 4, 1, 0]]
def xft0 : List Nat := [0, 0, 0, 0, 0, 1, 3, 4, 1, 10, 11, 2, 3, 4, 5, 6, 7, 8, 0, 9, 10, 0, 0, 0, 11, 0]
def xoc (o : Nat) : Nat := match o with
  | 0 => 0
  | 1 => 2
  | 2 => 3
  | 3 => 4
  | 4 => 4
  | o => if 10 ≤ o ∧ o < 36 then 5 else 1000
def xft (o k : Nat) : Nat := match o with
  | 0 => xft0.getD k 0
  | 1 => if k = 0 then 2 else 0
  | 3 => 12
  | 4 => 13
  | o => if k = 8 then 0 else 100 * o + 8997 + k
def xat (a : Nat) : Nat × Nat :=
  if a < 14 then ([(2, 1600), (1, 6), (6, 4), (1, 3), (1, 64), (7, 128), (1, 16), (1, 16), (1, 16), (8, 7), (6, 20), (2, 95), (4, 9), (4, 9)] : List (Nat × Nat)).getD a (0, 0)
  else if 1000 ≤ a ∧ a < 1128 then (1, 7)
  else if 2000 ≤ a ∧ a < 2007 then (7, 31)
  else if 3000 ≤ a ∧ a < 3217 then (1, 64)
  else if 10000 ≤ a ∧ a < 12600 then (if a % 100 = 0 then (1, 64) else if a % 100 < 4 then (1, 7) else if a % 100 = 4 then (7, 40) else if 10 ≤ a % 100 ∧ a % 100 < 50 then (1, 4) else (0, 0))
  else (0, 0)
def xT : Tab := (xoc, fun c k => (xfk.getD c []).getD k 0, xft, xat)
abbrev xtys (S : Adr) : List (ClassId × FieldType) := [(S.2.2.2 1, .int), (S.2.2.2 2, .byte), (S.2.2.2 3, .char), (S.2.2.2 4, .long), (S.2.2.2 6, .object RX5), (S.2.2.2 7, .array .int), (S.2.2.2 8, .array (.array .int)), (S.2.2.2 9, .object "java/lang/Object"), (S.2.2.2 10, .object "java/lang/String")]
/-- the raw part: what an address holds (its code: class + 1, or 100 + kind of array; from 5000 on: not to be written) and its length; whole numbers, longs, references -/
abbrev RS : Type := (Nat → Nat × Nat) × (Nat → Nat → Int32) × (Nat → Nat → Int64) × (Nat → Nat → Option Nat)
def rk (ρ : RS) (a : Nat) : Nat := (ρ.1 a).1
def rn (ρ : RS) (a : Nat) : Nat := (ρ.1 a).2
def rc (ρ : RS) (a : Nat) : Nat := rk ρ a % 5000
def rI (ρ : RS) : Nat → Nat → Int32 := ρ.2.1
def rL (ρ : RS) : Nat → Nat → Int64 := ρ.2.2.1
def rO (ρ : RS) : Nat → Nat → Option Nat := ρ.2.2.2
def tI (ρ : RS) (a k : Nat) (v : Int32) : RS := (ρ.1, up2 ρ.2.1 a k v, ρ.2.2)
def tL (ρ : RS) (a k : Nat) (v : Int64) : RS := (ρ.1, ρ.2.1, up2 ρ.2.2.1 a k v, ρ.2.2.2)
def tO (ρ : RS) (a k : Nat) (v : Option Nat) : RS := (ρ.1, ρ.2.1, ρ.2.2.1, up2 ρ.2.2.2 a k v)
/-- a new cell: nothing but zeros -/
def tN (ρ : RS) (a c n : Nat) : RS := (fun x => if x = a then (c, n) else ρ.1 x, fun x => if x = a then fun _ => 0 else ρ.2.1 x, fun x => if x = a then fun _ => 0 else ρ.2.2.1 x, fun x => if x = a then fun _ => none else ρ.2.2.2 x)
def rval (S : Adr) (ρ : RS) (c a k : Nat) : Value := match xT.2.1 c k with
  | 0 => .int (rI ρ a k)
  | 1 => .long (rL ρ a k)
  | _ => va_rf (rO ρ a k)
def rcont (ρ : RS) (a t : Nat) : vp_A := match t with
  | 4 => (rn ρ a, .inr (.inl (rL ρ a)))
  | 9 => (rn ρ a, .inr (.inr (.inr (.inr (rO ρ a)))))
  | 10 => (rn ρ a, .inr (.inr (.inr (.inr (rO ρ a)))))
  | _ => (rn ρ a, .inl (rI ρ a))
def RM (S : Adr) (ρ : RS) (H : Heap) : Prop :=
  (∀ (a c : Nat) (r : vw_C), rc ρ a = c + 1 → xcl[c]? = some r → t_OB a (S.1.1 c) r.2.2 (S.1.2 c) H (rval S ρ c a)) ∧
  ∀ (a t : Nat), rc ρ a = 100 + t → H[a]? = some (vp_cell (S.2.2.2 t) (rcont ρ a t))
/-- raw cells are no cells of the shape; those that may be written are the method's own; the codes are those of a class or an array -/
def RD (S : Adr) (A : Nat → Prop) (ρ : RS) : Prop := ∀ a : Nat, rk ρ a ≠ 0 → ¬ fCell xT S xcl a ∧ (rk ρ a < 5000 → A a) ∧ (rc ρ a < 23 ∨ 100 ≤ rc ρ a) ∧ rc ρ a ≠ 0
abbrev XN : Type := FS × RS
/-- where the String constants (900) and the static arrays (901) lie -/
def XL (S : Adr) (σ : FS) : Prop := (∀ i : Nat, fR σ 900 i = .ref (S.2.1 (600 + i)) ∧ fR σ 901 i = .ref (S.2.1 (700 + i))) ∧ S.2.1 705 = S.2.1 0
def XI (S : Adr) (A : Nat → Prop) (ν : XN) (H : Heap) : Prop := FM xT S xcl ν.1 H ∧ RM S ν.2 H ∧ RD S A ν.2 ∧ XL S ν.1
abbrev XM : Type := XN × Nat × Nat
def XInv (S : Adr) (A : Nat → Prop) (mc ms : Nat) (μ : XM) (H : Heap) (cells slots : Nat) : Prop := XI S A μ.1 H ∧ cells + μ.2.1 ≤ mc ∧ slots + μ.2.2 ≤ ms
def xok (t a : Nat) : Prop := (xT.2.2.2 a).1 = t
def xlen (a : Nat) : Nat := (xT.2.2.2 a).2
/-- a raw cell's own address was there -/
theorem RM.lt {S : Adr} {A : Nat → Prop} {ρ : RS} {H : Heap} (h : RM S ρ H) (hD : RD S A ρ) {a : Nat} (ha : rk ρ a ≠ 0) : a < H.size := by
  obtain ⟨-, -, h1 | h1, h2⟩ := hD a ha
  · obtain ⟨c, hc⟩ : ∃ c, rc ρ a = c + 1 := ⟨rc ρ a - 1, by omega⟩
    have hl : c < xcl.length := by show c < 22; omega
    obtain ⟨cell, q, -⟩ := h.1 a c _ hc (List.getElem?_eq_getElem hl)
    exact (Array.getElem?_eq_some_iff.mp q).1
  · obtain ⟨t, ht⟩ : ∃ t, rc ρ a = 100 + t := ⟨rc ρ a - 100, by omega⟩
    exact (Array.getElem?_eq_some_iff.mp (h.2 a t ht)).1
theorem rc_of {ρ : RS} {a c : Nat} (h : rk ρ a = c) (hc : c < 5000) : rc ρ a = c := by unfold rc; rw [h]; exact Nat.mod_eq_of_lt hc
theorem rk_ne {ρ : RS} {a c : Nat} (h : rc ρ a = c) (hc : c ≠ 0) : rk ρ a ≠ 0 := by intro e; unfold rc at h; rw [e] at h; simp at h; exact hc h.symm
theorem RM.kept {S : Adr} {A : Nat → Prop} {ρ : RS} {H H1 : Heap} (h : RM S ρ H) (hk : ∀ a, rk ρ a ≠ 0 → H1[a]? = H[a]?) : RM S ρ H1 :=
  ⟨fun a c r hc hr => (h.1 a c r hc hr).kept (hk a (rk_ne hc (by omega))), fun a t ht => by rw [hk a (rk_ne ht (by omega))]; exact h.2 a t ht⟩
/-- the shape's cells change, the raw ones stay -/
theorem XI.keyed {S : Adr} {A : Nat → Prop} {ν : XN} {σ' : FS} {H H1 : Heap} (h : XI S A ν H) (hL : XL S σ') (hF : FM xT S xcl σ' H1) {q0 : Nat} (hq0 : fCell xT S xcl q0) (hq : ∀ q, q ≠ q0 → H1[q]? = H[q]?) : XI S A (σ', ν.2) H1 :=
  ⟨hF, h.2.1.kept (A := A) (fun a ha => hq a (fun e => (h.2.2.1 a ha).1 (e ▸ hq0))), h.2.2.1, hL⟩
theorem rval_eq {S : Adr} {ρ ρ' : RS} {c a k : Nat} (h1 : rI ρ' a k = rI ρ a k) (h2 : rL ρ' a k = rL ρ a k) (h3 : rO ρ' a k = rO ρ a k) : rval S ρ' c a k = rval S ρ c a k := by
  unfold rval
  rw [h1, h2, h3]
/-- one raw cell changes -/
theorem XI.raw {S : Adr} {A : Nat → Prop} {ν : XN} {ρ' : RS} {H H1 : Heap} {a : Nat} (h : XI S A ν H) (ha : rk ν.2 a ≠ 0) (hq : ∀ q, q ≠ a → H1[q]? = H[q]?) (hk : ρ'.1 = ν.2.1) (ho : ∀ b, b ≠ a → (∀ k, rI ρ' b k = rI ν.2 b k) ∧ (∀ k, rL ρ' b k = rL ν.2 b k) ∧ ∀ k, rO ρ' b k = rO ν.2 b k)
    (h1 : ∀ (c : Nat) (r : vw_C), rc ν.2 a = c + 1 → xcl[c]? = some r → t_OB a (S.1.1 c) r.2.2 (S.1.2 c) H1 (rval S ρ' c a)) (h2 : ∀ t : Nat, rc ν.2 a = 100 + t → H1[a]? = some (vp_cell (S.2.2.2 t) (rcont ρ' a t))) : XI S A (ν.1, ρ') H1 := by
  have ek : ∀ b, rk ρ' b = rk ν.2 b := fun b => by unfold rk; rw [hk]
  have ec : ∀ b, rc ρ' b = rc ν.2 b := fun b => by unfold rc; rw [ek]
  have en : ∀ b, rn ρ' b = rn ν.2 b := fun b => by unfold rn; rw [hk]
  refine ⟨h.1.kept (fun q hf => hq q (fun e => (h.2.2.1 a ha).1 (e ▸ hf))), ⟨fun b c r hc hr => ?_, fun b t ht => ?_⟩, fun b hb => ?_, h.2.2.2⟩
  · rw [ec] at hc
    by_cases e : b = a
    · subst e; exact h1 c r hc hr
    · refine ((h.2.1.1 b c r hc hr).kept (hq b e)).to (fun j _ => ?_)
      obtain ⟨g1, g2, g3⟩ := ho b e
      exact (rval_eq (g1 j) (g2 j) (g3 j)).symm
  · rw [ec] at ht
    by_cases e : b = a
    · subst e; exact h2 t ht
    · rw [hq b e, h.2.1.2 b t ht]
      obtain ⟨g1, g2, g3⟩ := ho b e
      have e1 : rI ρ' b = rI ν.2 b := funext g1
      have e2 : rL ρ' b = rL ν.2 b := funext g2
      have e3 : rO ρ' b = rO ν.2 b := funext g3
      unfold rcont
      rw [e1, e2, e3, en]
  · rw [ek, ec]; rw [ek] at hb; exact h.2.2.1 b hb
theorem XI.newC {S : Adr} {A : Nat → Prop} {ν : XN} {H H1 : Heap} {c n : Nat} (h : XI S A ν H) (hA : A H.size) (hq : ∀ q, q < H.size → H1[q]? = H[q]?) (hcd : (c < 23 ∨ 100 ≤ c) ∧ c ≠ 0 ∧ c < 5000) (hsz : ∀ q, fCell xT S xcl q → q < H.size)
    (h1 : ∀ (d : Nat) (r : vw_C), c = d + 1 → xcl[d]? = some r → t_OB H.size (S.1.1 d) r.2.2 (S.1.2 d) H1 (rval S (tN ν.2 H.size c n) d H.size)) (h2 : ∀ t : Nat, c = 100 + t → H1[H.size]? = some (vp_cell (S.2.2.2 t) (rcont (tN ν.2 H.size c n) H.size t))) : rk ν.2 H.size = 0 ∧ XI S A (ν.1, tN ν.2 H.size c n) H1 := by
  have hfr : rk ν.2 H.size = 0 := by
    rcases Nat.eq_zero_or_pos (rk ν.2 H.size) with e | e
    · exact e
    · exact absurd (h.2.1.lt h.2.2.1 (a := H.size) (by omega)) (by omega)
  have ek : ∀ b, b ≠ H.size → rk (tN ν.2 H.size c n) b = rk ν.2 b := fun b e => by simp [rk, tN, e]
  have ec : ∀ b, b ≠ H.size → rc (tN ν.2 H.size c n) b = rc ν.2 b := fun b e => by unfold rc; rw [ek b e]
  have ek0 : rk (tN ν.2 H.size c n) H.size = c := by simp [rk, tN]
  have ec0 : rc (tN ν.2 H.size c n) H.size = c := rc_of ek0 hcd.2.2
  refine ⟨hfr, h.1.kept (fun q hf => hq q (hsz q hf)), ⟨fun b d r hc hr => ?_, fun b t ht => ?_⟩, fun b hb => ?_, h.2.2.2⟩
  · by_cases e : b = H.size
    · subst e; rw [ec0] at hc; exact h1 d r hc hr
    · rw [ec b e] at hc
      refine ((h.2.1.1 b d r hc hr).kept (hq b (h.2.1.lt h.2.2.1 (rk_ne hc (by omega))))).to (fun j _ => ?_)
      refine (rval_eq ?_ ?_ ?_).symm <;> simp [rI, rL, rO, tN, e]
  · by_cases e : b = H.size
    · subst e; rw [ec0] at ht; exact h2 t ht
    · rw [ec b e] at ht
      rw [hq b (h.2.1.lt h.2.2.1 (rk_ne ht (by omega))), h.2.1.2 b t ht]
      have e1 : rI (tN ν.2 H.size c n) b = rI ν.2 b := by funext k; simp [rI, tN, e]
      have e2 : rL (tN ν.2 H.size c n) b = rL ν.2 b := by funext k; simp [rL, tN, e]
      have e3 : rO (tN ν.2 H.size c n) b = rO ν.2 b := by funext k; simp [rO, tN, e]
      have e4 : rn (tN ν.2 H.size c n) b = rn ν.2 b := by simp [rn, tN, e]
      unfold rcont
      rw [e1, e2, e3, e4]
  · by_cases e : b = H.size
    · subst e
      refine ⟨fun hf => absurd (hsz _ hf) (by omega), fun _ => hA, ?_, ?_⟩
      · rw [ec0]; exact hcd.1
      · rw [ec0]; exact hcd.2.1
    · rw [ek b e] at hb ⊢
      rw [ec b e]
      exact h.2.2.1 b hb
