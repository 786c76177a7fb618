/-! THE SYSTEM: names, words that must stand, hash codes -/
theorem own_cT : own = cT 0 := rfl
theorem own_l : (cT 0).length = 27 := rfl
/-- a word that must stand -/
theorem xl_wordE {ν : XN} {t : Nat → Nat} {e a k n x : Nat} {w : List Nat} {Q E : XN → Prop} (h : Tk ν.1 t e a) (hs : SRep ν.2 x w) (hk : 3 ≤ k) (hn : 2 * nx t e a + 4 ≤ n)
    (hQ : ∀ ν', pExp w t e a = .inl ((), wE t e (lk t e a)) → lk t e a < wE t e (lk t e a) → XTt ν.1 ν'.1 → Old ν.2 ν'.2 → Tk ν'.1 t e (wE t e (lk t e a)) → Q ν')
    (hE : ∀ ν' q, pExp w t e a = .inr q → XTt ν.1 ν'.1 → Old ν.2 ν'.2 → Bd2 ν'.1 q → E ν') : xw_X2_word x ν k n Q E := by
  unfold xw_X2_word
  refine ⟨k, n, 0, 0, by omega, by omega, ?_⟩
  refine xl_word h (fun _ => by omega) (fun _ => by unfold nx at hn; omega) (fun ν7 rr hL hp f7 o7 T7 fr7 s7 k7 z7 _ => ?_) (fun ν7 hno f7 g7 d7 => ?_)
  · have hw : pWord t e a = .inl ((wd t (lk t e a) (wE t e (lk t e a)), lk t e a), wE t e (lk t e a)) := by unfold pWord; rw [if_pos ⟨hL, hp⟩]
    refine ⟨rcO k7 (by decide), ?_⟩
    refine xl_eq s7 (hs.old o7) ?_
    by_cases hq : wd t (lk t e a) (wE t e (lk t e a)) = w
    · rw [if_pos hq]
      refine ⟨fun _ => hQ ν7 ?_ (wE_spec hL).1 f7 o7 T7, fun z => absurd z (by decide)⟩
      unfold pExp
      rw [hw, pB_inlR, if_pos hq]
    · rw [if_neg hq]
      refine ⟨fun z => absurd rfl z, fun _ => ?_⟩
      rw [fr7, i_1]
      refine xl_wrong (fun ν' f' g' d' => hE ν' _ ?_ (f7.trans f') (o7.trans (Old.eq g')) d')
      unfold pExp
      rw [hw, pB_inlR, if_neg hq]
  · refine hE ν7 _ ?_ f7 (Old.eq g7) d7
    unfold pExp pWord
    rw [if_neg hno]
    rfl
theorem xl_name {ν : XN} {t : Nat → Nat} {e a k n : Nat} {Q : Nat → XN → Prop} {E : XN → Prop} (h : Tk ν.1 t e a) (hW : xWs ν) (hk : 3 ≤ k) (hn : 2 * nx t e a + 4 ≤ n)
    (hQ : ∀ ν' r w b, pName t e a = .inl ((w, lk t e a), b) → lk t e a < b → XTt ν.1 ν'.1 → Old ν.2 ν'.2 → Tk ν'.1 t e b → fI ν'.1 1 3 = nI (lk t e a) → SRep ν'.2 r w → rk ν'.2 r = 11 → rk ν.2 r = 0 → Q r ν')
    (hE : ∀ ν' q, pName t e a = .inr q → XTt ν.1 ν'.1 → Old ν.2 ν'.2 → Bd2 ν'.1 q → E ν') : xw_X2_name ν k n Q E := by
  unfold xw_X2_name
  refine ⟨k, n, 0, 0, by omega, by omega, ?_⟩
  refine xl_word h (fun _ => by omega) (fun _ => by unfold nx at hn; omega) (fun ν7 rr hL hp f7 o7 T7 fr7 s7 k7 z7 _ => ?_) (fun ν7 hno f7 g7 d7 => ?_)
  · have hw : pWord t e a = .inl ((wd t (lk t e a) (wE t e (lk t e a)), lk t e a), wE t e (lk t e a)) := by unfold pWord; rw [if_pos ⟨hL, hp⟩]
    generalize hw0 : wd t (lk t e a) (wE t e (lk t e a)) = w at *
    have hpn : pName t e a = if own.contains w = true then .inr (1, lk t e a) else if 6 < w.length then .inr (1, lk t e a + 6) else .inl ((w, lk t e a), wE t e (lk t e a)) := by
      unfold pName
      rw [hw, pB_inlR]
    intro b9 hb9
    obtain ⟨mA, m1, m2⟩ := hW.2.1 0 (by decide)
    have m1 : fR ν7.1 901 0 = .ref mA := by rw [f7.2.2.2.2.2]; exact m1
    rw [hb9] at m1
    cases m1
    refine xl_find s7 (m2.old o7) (by rw [own_l]; decide) (fun i hi _ => ?_) (fun hi => ?_)
    · have h27 : i < 27 := by have := (List.getElem?_eq_some_iff.mp hi).1; rw [own_l] at this; exact this
      have hc : own.contains w = true := by rw [own_cT]; exact List.contains_iff_mem.mpr (List.mem_of_getElem? hi)
      rw [if_pos hc] at hpn
      refine ⟨fun z => absurd z ?_, fun _ => ?_⟩
      · show ¬ nI i = M1
        rw [nI_m1 (by omega)]; exact id
      · rw [fr7, i_1]
        exact xl_wrong (fun ν' f' g' d' => hE ν' _ hpn (f7.trans f') (o7.trans (Old.eq g')) d')
    · have hc : ¬ own.contains w = true := fun z => by
        rw [own_cT] at z
        obtain ⟨j, hj⟩ := List.getElem?_of_mem (List.contains_iff_mem.mp z)
        exact hi j hj
      rw [if_neg hc] at hpn
      refine ⟨fun _ => ⟨rcO k7 (by decide), ?_⟩, fun z => absurd rfl z⟩
      refine xl_sLen s7 ?_
      have hl := s7.2.2.2.1
      rw [i_6, nI_leI (by omega) (by omega)]
      refine ⟨fun z => ?_, fun z => ?_⟩
      · rw [if_neg (by omega)] at hpn
        exact hQ ν7 rr w _ hpn (wE_spec hL).1 f7 o7 T7 fr7 s7 k7 z7
      · rw [if_pos (by omega)] at hpn
        rw [fr7, nI_add, i_1]
        exact xl_wrong (fun ν' f' g' d' => hE ν' _ hpn (f7.trans f') (o7.trans (Old.eq g')) d')
  · refine hE ν7 _ ?_ f7 (Old.eq g7) d7
    unfold pName pWord
    rw [if_neg hno]
    rfl
theorem xl_most {ν : XN} {y q : Nat} {Q E : XN → Prop} (hy : y < 2) (hQ : y = 0 → Q ν) (hE : ∀ ν', y = 1 → XTt ν.1 ν'.1 → ν'.2 = ν.2 → Bd2 ν'.1 (5, q) → E ν') : xw_X2_most (nI y) (nI q) ν Q E := by
  unfold xw_X2_most
  refine ⟨fun z => hQ ?_, fun z => ?_⟩
  · rcases (show y = 0 ∨ y = 1 by omega) with rfl | rfl
    · rfl
    · exact absurd z (by decide)
  · rcases (show y = 0 ∨ y = 1 by omega) with rfl | rfl
    · exact absurd rfl z
    · rw [i_5]
      exact xl_wrong (fun ν' f g d => hE ν' rfl f g d)
/-- a word's hash code -/
def hsh (w : List Nat) : Int32 := w.foldl (fun h c => 31 * h + nI c) 0
/-- not reckoned yet, or kept -/
def HOk (ρ : RS) (r : Nat) (w : List Nat) : Prop := rI ρ r 2 = hsh w ∨ (rI ρ r 2 = nI 0 ∧ rI ρ r 3 = nI 0)
theorem and255b : ∀ c, c < 128 → nI c &&& (255 : Int32) = nI c := by decide +kernel
theorem hsh_1 (c : Nat) : hsh [c] = nI c := by
  show 31 * (0 : Int32) + nI c = nI c
  simp
theorem xl_hash {ν : XN} {r : Nat} {w : List Nat} {Q : Int32 → XN → Prop} (h : SRep ν.2 r w) (hk : rk ν.2 r = 11) (ho : HOk ν.2 r w)
    (hQ : ∀ ν', ν'.1 = ν.1 → Chg (fun a => a = r) ν.2 ν'.2 → SRep ν'.2 r w → HOk ν'.2 r w → Q (hsh w) ν') : xw_J6_hashCode r ν Q := by
  have h0 := h
  obtain ⟨h1, h2, ⟨va, h3, h4, h5, h6⟩, h7, h8⟩ := h
  have nv : va ≠ r := fun z => by rw [z, h1] at h4; cases h4
  have done : rI ν.2 r 2 = hsh w → Q (hsh w) ν := fun z => hQ ν rfl (Chg.refl _ _) h0 (Or.inl z)
  unfold xw_J6_hashCode
  refine ⟨h1, fun z => ?_, fun z => ⟨h1, fun z3 => ?_, fun z3 => ⟨h1, ?_⟩⟩⟩
  · rcases ho with w1 | w1
    · rw [w1]; exact done w1
    · exact absurd w1.1 z
  · rcases ho with w1 | w1
    · rw [w1]; exact done w1
    · exact absurd w1.2 z3
  · unfold xw_J6_isLatin1
    refine ⟨fun z => absurd z (by decide), fun _ => ⟨h1, fun q => absurd h2 q, fun _ => ⟨fun q => absurd q (by decide), fun _ => ⟨h1, va, h3, ?_⟩⟩⟩⟩
    have fin : xw_J6_hashCode_40 r (hsh w) ν Q := by
      unfold xw_J6_hashCode_40
      refine ⟨fun q => ⟨hk, fun ν1 e1 => ?_⟩, fun q => ⟨hk, fun ν1 e1 => ?_⟩⟩
      · have c1 : Chg (fun a => a = r) ν.2 ν1.2 := by rw [e1]; exact Chg.tI _ _ _ rfl
        refine hQ ν1 (by rw [e1]) c1 ?_ (Or.inl (by rw [e1]; show rI (tI ν.2 r 2 (hsh w)) r 2 = _; rw [rI_tI, if_pos ⟨rfl, rfl⟩]))
        rw [e1]
        refine ⟨h1, by show rI (tI ν.2 r 2 (hsh w)) r 1 = _; rw [rI_tI, if_neg (by omega)]; exact h2, ⟨va, h3, h4, h5, fun i c hi => by show rI (tI ν.2 r 2 (hsh w)) va i = _; rw [rI_tI, if_neg (fun q => nv q.1)]; exact h6 i c hi⟩, h7, h8⟩
      · have c1 : Chg (fun a => a = r) ν.2 ν1.2 := by rw [e1]; exact Chg.tI _ _ _ rfl
        refine hQ ν1 (by rw [e1]) c1 ?_ (Or.inl (by rw [e1]; show rI (tI ν.2 r 3 1) r 2 = _; rw [rI_tI, if_neg (by omega), z, q]))
        rw [e1]
        refine ⟨h1, by show rI (tI ν.2 r 3 1) r 1 = _; rw [rI_tI, if_neg (by omega)]; exact h2, ⟨va, h3, h4, h5, fun i c hi => by show rI (tI ν.2 r 3 1) va i = _; rw [rI_tI, if_neg (fun q => nv q.1)]; exact h6 i c hi⟩, h7, h8⟩
    unfold xw_J9_hashCode
    have e1 : Int32.ofNat (rn ν.2 va) = nI w.length := by show nI (rn ν.2 va) = _; rw [h5]
    rw [e1]
    refine ⟨h4, fun q => ?_, fun q => ⟨fun q1 => ⟨h4, ?_, ?_⟩, fun q1 => ⟨h4, ?_⟩⟩⟩
    · have hl : w.length = 0 := by rw [i_0, nI_eq (by omega) (by omega)] at q; exact q
      rw [List.length_eq_zero_iff.mp hl] at fin
      exact fin
    · have hl : w.length = 1 := by rw [i_1, nI_eq (by omega) (by omega)] at q1; exact q1
      rw [h5, hl]; exact vp_in_nI (n := 0) (N := 1) (by decide) (by decide)
    · have hl : w.length = 1 := by rw [i_1, nI_eq (by omega) (by omega)] at q1; exact q1
      obtain ⟨c, rfl⟩ := List.length_eq_one_iff.mp hl
      have := h6 0 c rfl
      show xw_J6_hashCode_40 r (rI ν.2 va 0 &&& 255) ν Q
      rw [this, and255b c (h8 c (by simp)), ← hsh_1]
      exact fin
    · unfold xw_J10_vectorizedHashCode
      refine ⟨fun _ => ⟨h4, ?_⟩, fun q => absurd rfl q⟩
      unfold xw_J10_signedHashCode xw_J10_signedHashCode_8
      intro X hX
      rw [i_0, nI_add, Nat.zero_add]
      have key : ∀ m i, w.length - i = m → i ≤ w.length → X (hsh (w.take i)) va (nI w.length) (nI i) ν := by
        intro m
        induction m with
        | zero =>
          intro i hm hi
          refine hX _ _ _ _ _ ?_
          rw [nI_leI (by omega) (by omega)]
          refine ⟨fun _ => ?_, fun q => absurd (by omega) q⟩
          rw [List.take_of_length_le (by omega)]
          exact fin
        | succ m ih =>
          intro i hm hi
          have hx := List.getElem?_eq_getElem (show i < w.length by omega)
          have b1 := h8 _ (List.mem_of_getElem? hx)
          refine hX _ _ _ _ _ ?_
          rw [nI_leI (by omega) (by omega), nI_clamp (by omega), h6 i _ hx, and255b _ b1, h5, nI_1]
          refine ⟨fun q => by omega, fun _ => ⟨h4, vp_in_nI (by omega) (by omega), ?_⟩⟩
          have e2 : hsh (w.take (i + 1)) = 31 * hsh (w.take i) + nI w[i] := by
            rw [List.take_succ, hx]
            unfold hsh
            rw [List.foldl_append]
            rfl
          rw [← e2]
          exact ih (i + 1) (by omega) (by omega)
      exact key _ 0 rfl (by omega)
