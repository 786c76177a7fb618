/-! THE SYSTEM: raw objects that stay; strings; trees and what they tell -/
/-- what was made before stays as it was -/
def Old (ρ ρ' : RS) : Prop := ∀ a, rk ρ a ≠ 0 → rk ρ' a = rk ρ a ∧ rn ρ' a = rn ρ a ∧ (∀ k, rI ρ' a k = rI ρ a k) ∧ (∀ k, rL ρ' a k = rL ρ a k) ∧ ∀ k, rO ρ' a k = rO ρ a k
theorem Old.refl (ρ : RS) : Old ρ ρ := fun _ _ => ⟨rfl, rfl, fun _ => rfl, fun _ => rfl, fun _ => rfl⟩
theorem Old.trans {ρ ρ' ρ'' : RS} (h : Old ρ ρ') (g : Old ρ' ρ'') : Old ρ ρ'' := fun a ha => by
  obtain ⟨h1, h2, h3, h4, h5⟩ := h a ha
  obtain ⟨g1, g2, g3, g4, g5⟩ := g a (by rw [h1]; exact ha)
  exact ⟨g1.trans h1, g2.trans h2, fun k => (g3 k).trans (h3 k), fun k => (g4 k).trans (h4 k), fun k => (g5 k).trans (h5 k)⟩
theorem rc_rk {ρ : RS} {a : Nat} (h : rc ρ a ≠ 0) : rk ρ a ≠ 0 := fun z => h (by unfold rc; rw [z])
theorem Old.c {ρ ρ' : RS} (h : Old ρ ρ') {a c : Nat} (ha : rc ρ a = c) (hc : c ≠ 0) : rc ρ' a = c ∧ rn ρ' a = rn ρ a ∧ (∀ k, rI ρ' a k = rI ρ a k) ∧ (∀ k, rL ρ' a k = rL ρ a k) ∧ ∀ k, rO ρ' a k = rO ρ a k := by
  obtain ⟨h1, h2⟩ := h a (rc_rk (by rw [ha]; exact hc))
  exact ⟨by unfold rc; rw [h1]; exact ha, h2⟩
theorem LRep.old {ρ ρ' : RS} {la : Nat} {as : List Nat} (o : Old ρ ρ') (h : LRep ρ la as) : LRep ρ' la as := by
  obtain ⟨h1, h2, ea, h3, h4, h5, h6, h7⟩ := h
  obtain ⟨a1, a2, a3, a4, a5⟩ := o.c h1 (by decide)
  obtain ⟨b1, b2, b3, b4, b5⟩ := o.c h4 (by decide)
  exact ⟨a1, by rw [a3]; exact h2, ea, by rw [a5]; exact h3, b1, by rw [b2]; exact h5, by rw [b2]; exact h6, fun k x hk => by rw [b5]; exact h7 k x hk⟩
/-- a String of these letters -/
def SRep (ρ : RS) (a : Nat) (w : List Nat) : Prop := rc ρ a = 11 ∧ rI ρ a 1 = nI 0 ∧ (∃ va, rO ρ a 0 = some va ∧ rc ρ va = 102 ∧ rn ρ va = w.length ∧ ∀ (i : Nat) c, w[i]? = some c → rI ρ va i = nI c) ∧ w.length < 2000 ∧ ∀ c ∈ w, c < 128
theorem SRep.old {ρ ρ' : RS} {a : Nat} {w : List Nat} (o : Old ρ ρ') (h : SRep ρ a w) : SRep ρ' a w := by
  obtain ⟨h1, h2, ⟨va, h3, h4, h5, h6⟩, h7, h8⟩ := h
  obtain ⟨a1, a2, a3, a4, a5⟩ := o.c h1 (by decide)
  obtain ⟨b1, b2, b3, b4, b5⟩ := o.c h4 (by decide)
  exact ⟨a1, by rw [a3]; exact h2, ⟨va, by rw [a5]; exact h3, b1, by rw [b2]; exact h5, fun k x hk => by rw [b3]; exact h6 k x hk⟩, h7, h8⟩
/-- a StringBuilder of these letters -/
def BRep (ρ : RS) (a : Nat) (w : List Nat) : Prop := rc ρ a = 17 ∧ rI ρ a 1 = nI 0 ∧ rI ρ a 3 = nI w.length ∧ (∃ va, rO ρ a 0 = some va ∧ rc ρ va = 102 ∧ w.length ≤ rn ρ va ∧ rn ρ va < 1000000 ∧ ∀ (i : Nat) c, w[i]? = some c → rI ρ va i = nI c) ∧ ∀ c ∈ w, c < 128
theorem BRep.old {ρ ρ' : RS} {a : Nat} {w : List Nat} (o : Old ρ ρ') (h : BRep ρ a w) : BRep ρ' a w := by
  obtain ⟨h1, h2, h2', ⟨va, h3, h4, h5, h5', h6⟩, h8⟩ := h
  obtain ⟨a1, a2, a3, a4, a5⟩ := o.c h1 (by decide)
  obtain ⟨b1, b2, b3, b4, b5⟩ := o.c h4 (by decide)
  exact ⟨a1, by rw [a3]; exact h2, by rw [a3]; exact h2', ⟨va, by rw [a5]; exact h3, b1, by rw [b2]; exact h5, by rw [b2]; exact h5', fun k x hk => by rw [b3]; exact h6 k x hk⟩, h8⟩
theorem char_ok : ∀ c, c < 128 → UInt32.toInt32 (Int32.toUInt32 (nI c &&& (255 : Int32)) % 65536) = nI c ∧ narrow .char (.int (nI c)) = .int (nI c) := by decide +kernel
theorem shr_0 {n : Nat} (h : n < 2 ^ 31) : nI n >>> (nI 0 &&& (31 : Int32)) = nI n := by
  rw [i_31, and31 (by decide), pk_shrN h (nI 0) 0 (by decide)]; simp
theorem xl_ci {ν : XN} {k n : Nat} {x : Option Nat} {Q : Int32 → XN → Prop} (hk : k < n) (hn : n < 2 ^ 31) (hQ : Q (nI k) ν) : xw_J8_checkIndex (nI k) (nI n) x ν Q := by
  unfold xw_J8_checkIndex
  rw [i_0, nI_ltI (by omega) (by omega), nI_ltI (by omega) (by omega)]
  exact ⟨fun q => absurd q (by omega), fun _ => ⟨fun _ => hQ, fun q => absurd hk q⟩⟩
theorem xl_sbAt {ν : XN} {a k c : Nat} {w : List Nat} {Q : Int32 → XN → Prop} (h : BRep ν.2 a w) (hk : w[k]? = some c) (hQ : Q (nI c) ν) : xw_J15_charAt a (nI k) ν Q := by
  obtain ⟨h1, h2, h3, ⟨va, h4, h5, h6, h6', h7⟩, h8⟩ := h
  have hkl := (List.getElem?_eq_some_iff.mp hk).1
  have hc := h8 c (List.mem_of_getElem? hk)
  unfold xw_J15_charAt xw_J14_charAt
  refine ⟨h1, h1, h1, va, h4, h1, h5, ?_⟩
  rw [h2, h3]
  have e : Int32.ofNat (rn ν.2 va) = nI (rn ν.2 va) := rfl
  rw [e, shr_0 (by omega)]
  have fin : xw_J6_checkIndex (nI k) (nI w.length) ν (fun ν9 => ((¬ nI 0 = (0 : Int32) → False) ∧ (nI 0 = (0 : Int32) → (rc ν9.2 va = 102 ∧ (vp_in (nI k) (rn ν9.2 va) ∧ (narrow .char (.int (UInt32.toInt32 (Int32.toUInt32 ((rI ν9.2 va (Int32.toNatClampNeg (nI k))) &&& (255 : Int32)) % 65536))) = .int (UInt32.toInt32 (Int32.toUInt32 ((rI ν9.2 va (Int32.toNatClampNeg (nI k))) &&& (255 : Int32)) % 65536)) ∧ (narrow .char (.int (UInt32.toInt32 (Int32.toUInt32 ((rI ν9.2 va (Int32.toNatClampNeg (nI k))) &&& (255 : Int32)) % 65536))) = .int (UInt32.toInt32 (Int32.toUInt32 ((rI ν9.2 va (Int32.toNatClampNeg (nI k))) &&& (255 : Int32)) % 65536)) ∧ Q (UInt32.toInt32 (Int32.toUInt32 ((rI ν9.2 va (Int32.toNatClampNeg (nI k))) &&& (255 : Int32)) % 65536)) ν9))))))) := by
    unfold xw_J6_checkIndex
    intro b1
    refine xl_ci hkl (by omega) ⟨fun q => q rfl, fun _ => ⟨h5, vp_in_nI (by omega) (by omega), ?_⟩⟩
    rw [nI_clamp (by omega), h7 k c hk, (char_ok c hc).1]
    exact ⟨(char_ok c hc).2, (char_ok c hc).2, hQ⟩
  unfold xw_J12_min
  rw [nI_ltI (by omega) (by omega)]
  refine ⟨fun q => ?_, fun _ => fin⟩
  omega
/-- what tells a number, what tells yes or no: their codes -/
def isV (ρ : RS) (a : Nat) : Prop := rc ρ a = 12 ∨ rc ρ a = 13 ∨ rc ρ a = 14 ∨ rc ρ a = 15 ∨ rc ρ a = 16
def isT (ρ : RS) (a : Nat) : Prop := rc ρ a = 18 ∨ rc ρ a = 19 ∨ rc ρ a = 20 ∨ rc ρ a = 21
def sgO (c : Nat) : Nat := if c = 43 then 1 else if c = 45 then 2 else if c = 42 then 3 else if c = 47 then 4 else 0
/-- parts joined one behind another -/
def jn (R : Nat → List Nat → Prop) : List Nat → List Nat → List Nat → List Nat → Prop
  | [], [], cs, ds => ds = cs
  | a :: as, o :: os, cs, ds => ∃ c, R a c ∧ 1 ≤ o ∧ o < 12 ∧ jn R as os (cs ++ c ++ [o]) ds
  | _, _, _, _ => False
theorem jn.mono {R R' : Nat → List Nat → Prop} (h : ∀ a c, R a c → R' a c) : ∀ {as os cs ds : List Nat}, jn R as os cs ds → jn R' as os cs ds
  | [], [], _, _, e => e
  | a :: as, o :: os, cs, ds, ⟨c, r, o1, o2, e⟩ => ⟨c, h a c r, o1, o2, jn.mono h e⟩
  | [], _ :: _, _, _, e => e.elim
  | _ :: _, [], _, _, e => e.elim
def VT (al : Nat → Bool) (b0 : Nat) (ρ : RS) : Nat → (Nat → List Nat → Prop) × (Nat → List Nat → Prop)
  | 0 => (fun _ _ => False, fun _ _ => False)
  | d + 1 => (fun a cs =>
      (rc ρ a = 14 ∧ ∃ n : Nat, n < 10000 ∧ cs = [1000 + n] ∧ rL ρ a 0 = lI (n : Int))
      ∨ (rc ρ a = 15 ∧ ∃ i : Nat, i < 9 ∧ al i = true ∧ cs = [40 + i] ∧ rI ρ a 0 = nI i)
      ∨ (rc ρ a = 16 ∧ ∃ k b c, k < 2 ∧ al (9 + k) = true ∧ cs = c ++ [60 + k] ∧ rI ρ a 0 = nI k ∧ rO ρ a 1 = some b ∧ rO ρ a 2 = some b0 ∧ (VT al b0 ρ d).1 b c)
      ∨ (rc ρ a = 13 ∧ ∃ k b1 b2 c1 c2, k < 2 ∧ cs = c1 ++ c2 ++ [5 + k] ∧ rI ρ a 0 = nI k ∧ rO ρ a 1 = some b1 ∧ rO ρ a 2 = some b2 ∧ (VT al b0 ρ d).1 b1 c1 ∧ (VT al b0 ρ d).1 b2 c2)
      ∨ (rc ρ a = 12 ∧ ∃ la lb b as sg s c, rO ρ a 0 = some la ∧ LRep ρ la (b :: as) ∧ rO ρ a 1 = some lb ∧ BRep ρ lb (s :: sg) ∧ (VT al b0 ρ d).1 b c ∧ (∀ x ∈ sg, sgO x ≠ 0) ∧ jn (VT al b0 ρ d).1 as (sg.map sgO) c cs),
    fun a cs =>
      (rc ρ a = 20 ∧ cs = [13])
      ∨ (rc ρ a = 19 ∧ ∃ b c, cs = c ++ [12] ∧ rO ρ a 0 = some b ∧ (VT al b0 ρ d).2 b c)
      ∨ (rc ρ a = 21 ∧ ∃ k b1 b2 c1 c2, (k = 60 ∨ k = 61 ∨ k = 62) ∧ cs = c1 ++ c2 ++ [opC k] ∧ rI ρ a 2 = nI k ∧ rO ρ a 0 = some b1 ∧ rO ρ a 1 = some b2 ∧ (VT al b0 ρ d).1 b1 c1 ∧ (VT al b0 ρ d).1 b2 c2)
      ∨ (rc ρ a = 18 ∧ ∃ la b as c o, (o = 10 ∨ o = 11) ∧ rI ρ a 1 = nI (11 - o) ∧ rO ρ a 0 = some la ∧ LRep ρ la (b :: as) ∧ (VT al b0 ρ d).2 b c ∧ jn (VT al b0 ρ d).2 as (as.map (fun _ => o)) c cs))
theorem VT.old {al : Nat → Bool} {b0 : Nat} {ρ ρ' : RS} (o : Old ρ ρ') : ∀ d a cs, ((VT al b0 ρ d).1 a cs → (VT al b0 ρ' d).1 a cs) ∧ ((VT al b0 ρ d).2 a cs → (VT al b0 ρ' d).2 a cs) := by
  intro d
  induction d with
  | zero => intro a cs; exact ⟨fun h => h, fun h => h⟩
  | succ d ih =>
    intro a cs
    constructor
    · rintro (⟨h, n, h1, h2, h3⟩ | ⟨h, i, h1, h2, h3, h4⟩ | ⟨h, k, b, c, h1, h2, h3, h4, h5, h6, h7⟩ | ⟨h, k, b1, b2, c1, c2, h1, h2, h3, h4, h5, h6, h7⟩ | ⟨h, la, lb, b, as, sg, s, c, h1, h2, h3, h4, h5, h6, h7⟩)
      · obtain ⟨a1, a2, a3, a4, a5⟩ := o.c h (by decide)
        exact Or.inl ⟨a1, n, h1, h2, by rw [a4]; exact h3⟩
      · obtain ⟨a1, a2, a3, a4, a5⟩ := o.c h (by decide)
        exact Or.inr (Or.inl ⟨a1, i, h1, h2, h3, by rw [a3]; exact h4⟩)
      · obtain ⟨a1, a2, a3, a4, a5⟩ := o.c h (by decide)
        exact Or.inr (Or.inr (Or.inl ⟨a1, k, b, c, h1, h2, h3, by rw [a3]; exact h4, by rw [a5]; exact h5, by rw [a5]; exact h6, (ih b c).1 h7⟩))
      · obtain ⟨a1, a2, a3, a4, a5⟩ := o.c h (by decide)
        exact Or.inr (Or.inr (Or.inr (Or.inl ⟨a1, k, b1, b2, c1, c2, h1, h2, by rw [a3]; exact h3, by rw [a5]; exact h4, by rw [a5]; exact h5, (ih b1 c1).1 h6, (ih b2 c2).1 h7⟩)))
      · obtain ⟨a1, a2, a3, a4, a5⟩ := o.c h (by decide)
        exact Or.inr (Or.inr (Or.inr (Or.inr ⟨a1, la, lb, b, as, sg, s, c, by rw [a5]; exact h1, h2.old o, by rw [a5]; exact h3, h4.old o, (ih b c).1 h5, h6, h7.mono (fun a c => (ih a c).1)⟩)))
    · rintro (⟨h, h1⟩ | ⟨h, b, c, h1, h2, h3⟩ | ⟨h, k, b1, b2, c1, c2, h1, h2, h3, h4, h5, h6, h7⟩ | ⟨h, la, b, as, c, o', h1, h2, h3, h4, h5, h6⟩)
      · exact Or.inl ⟨(o.c h (by decide)).1, h1⟩
      · obtain ⟨a1, a2, a3, a4, a5⟩ := o.c h (by decide)
        exact Or.inr (Or.inl ⟨a1, b, c, h1, by rw [a5]; exact h2, (ih b c).2 h3⟩)
      · obtain ⟨a1, a2, a3, a4, a5⟩ := o.c h (by decide)
        exact Or.inr (Or.inr (Or.inl ⟨a1, k, b1, b2, c1, c2, h1, h2, by rw [a3]; exact h3, by rw [a5]; exact h4, by rw [a5]; exact h5, (ih b1 c1).1 h6, (ih b2 c2).1 h7⟩))
      · obtain ⟨a1, a2, a3, a4, a5⟩ := o.c h (by decide)
        exact Or.inr (Or.inr (Or.inr ⟨a1, la, b, as, c, o', h1, by rw [a3]; exact h2, by rw [a5]; exact h3, h4.old o, (ih b c).2 h5, h6.mono (fun a c => (ih a c).2)⟩))
theorem VT.up {al : Nat → Bool} {b0 : Nat} {ρ : RS} : ∀ d a cs, ((VT al b0 ρ d).1 a cs → (VT al b0 ρ (d + 1)).1 a cs) ∧ ((VT al b0 ρ d).2 a cs → (VT al b0 ρ (d + 1)).2 a cs) := by
  intro d
  induction d with
  | zero => intro a cs; exact ⟨fun h => h.elim, fun h => h.elim⟩
  | succ d ih =>
    intro a cs
    constructor
    · rintro (h | h | ⟨h, k, b, c, h1, h2, h3, h4, h5, h6, h7⟩ | ⟨h, k, b1, b2, c1, c2, h1, h2, h3, h4, h5, h6, h7⟩ | ⟨h, la, lb, b, as, sg, s, c, h1, h2, h3, h4, h5, h6, h7⟩)
      · exact Or.inl h
      · exact Or.inr (Or.inl h)
      · exact Or.inr (Or.inr (Or.inl ⟨h, k, b, c, h1, h2, h3, h4, h5, h6, (ih b c).1 h7⟩))
      · exact Or.inr (Or.inr (Or.inr (Or.inl ⟨h, k, b1, b2, c1, c2, h1, h2, h3, h4, h5, (ih b1 c1).1 h6, (ih b2 c2).1 h7⟩)))
      · exact Or.inr (Or.inr (Or.inr (Or.inr ⟨h, la, lb, b, as, sg, s, c, h1, h2, h3, h4, (ih b c).1 h5, h6, h7.mono (fun a c => (ih a c).1)⟩)))
    · rintro (h | ⟨h, b, c, h1, h2, h3⟩ | ⟨h, k, b1, b2, c1, c2, h1, h2, h3, h4, h5, h6, h7⟩ | ⟨h, la, b, as, c, o', h1, h2, h3, h4, h5, h6⟩)
      · exact Or.inl h
      · exact Or.inr (Or.inl ⟨h, b, c, h1, h2, (ih b c).2 h3⟩)
      · exact Or.inr (Or.inr (Or.inl ⟨h, k, b1, b2, c1, c2, h1, h2, h3, h4, h5, (ih b1 c1).1 h6, (ih b2 c2).1 h7⟩))
      · exact Or.inr (Or.inr (Or.inr ⟨h, la, b, as, c, o', h1, h2, h3, h4, (ih b c).2 h5, h6.mono (fun a c => (ih a c).2)⟩))
theorem VT.up2 {al : Nat → Bool} {b0 : Nat} {ρ : RS} {d e : Nat} (h : d ≤ e) (a : Nat) (cs : List Nat) : ((VT al b0 ρ d).1 a cs → (VT al b0 ρ e).1 a cs) ∧ ((VT al b0 ρ d).2 a cs → (VT al b0 ρ e).2 a cs) := by
  induction h with
  | refl => exact ⟨fun h => h, fun h => h⟩
  | step _ ih => exact ⟨fun h => (VT.up _ a cs).1 (ih.1 h), fun h => (VT.up _ a cs).2 (ih.2 h)⟩
/-- what is asked of a call of at, of holds, d levels deep -/
def VTA : Nat → (Nat → Nat → XN → (Int64 → XN → Prop) → Prop) × (Nat → Nat → XN → (Int32 → XN → Prop) → Prop)
  | 0 => (fun _ _ _ _ => False, fun _ _ _ _ => False)
  | d + 1 => (fun a m ν Q => (rc ν.2 a = 12 ∧ xw_X11_at (VTA d).1 (VTA d).2 a m ν Q) ∨ (rc ν.2 a = 13 ∧ xw_X12_at (VTA d).1 (VTA d).2 a m ν Q) ∨ (rc ν.2 a = 14 ∧ xw_X13_at a m ν Q) ∨ (rc ν.2 a = 15 ∧ xw_X14_at a m ν Q) ∨ (rc ν.2 a = 16 ∧ xw_X15_at (VTA d).1 (VTA d).2 a m ν Q),
    fun a m ν Q => (rc ν.2 a = 18 ∧ xw_X17_holds (VTA d).1 (VTA d).2 a m ν Q) ∨ (rc ν.2 a = 19 ∧ xw_X18_holds (VTA d).1 (VTA d).2 a m ν Q) ∨ (rc ν.2 a = 20 ∧ xw_X19_holds a m ν Q) ∨ (rc ν.2 a = 21 ∧ xw_X20_holds (VTA d).1 (VTA d).2 a m ν Q))
theorem VT.isV {al : Nat → Bool} {b0 d a : Nat} {ρ : RS} {cs : List Nat} (h : (VT al b0 ρ d).1 a cs) : rc ρ a = 12 ∨ rc ρ a = 13 ∨ rc ρ a = 14 ∨ rc ρ a = 15 ∨ rc ρ a = 16 := by
  cases d with
  | zero => exact h.elim
  | succ d =>
    rcases h with h | h | h | h | h
    · exact Or.inr (Or.inr (Or.inl h.1))
    · exact Or.inr (Or.inr (Or.inr (Or.inl h.1)))
    · exact Or.inr (Or.inr (Or.inr (Or.inr h.1)))
    · exact Or.inr (Or.inl h.1)
    · exact Or.inl h.1
theorem VT.isT {al : Nat → Bool} {b0 d a : Nat} {ρ : RS} {cs : List Nat} (h : (VT al b0 ρ d).2 a cs) : rc ρ a = 18 ∨ rc ρ a = 19 ∨ rc ρ a = 20 ∨ rc ρ a = 21 := by
  cases d with
  | zero => exact h.elim
  | succ d =>
    rcases h with h | h | h | h
    · exact Or.inr (Or.inr (Or.inl h.1))
    · exact Or.inr (Or.inl h.1)
    · exact Or.inr (Or.inr (Or.inr h.1))
    · exact Or.inl h.1
