/-! THE SYSTEM: which kind of statement -/
theorem hsh_w : hsh (str 13) = 3202466 ∧ hsh (str 14) = 110546223 ∧ hsh (str 15) = -991716523 ∧ hsh (str 18) = 102204232 ∧ hsh (str 20) = 3003674 := by decide
theorem hsh_w2 : hsh (str 21) = 102970056 ∧ hsh (str 22) = 110369291 ∧ hsh (str 23) = 99459988 ∧ hsh (str 24) = 94935213 := by decide
theorem cW_s : cW 5 = str 13 ∧ cW 6 = str 14 ∧ cW 7 = str 15 ∧ cW 8 = str 18 ∧ cW 9 = str 20 ∧ cW 10 = str 21 ∧ cW 11 = str 22 ∧ cW 12 = str 23 ∧ cW 13 = str 24 := by decide
def ldI (w : List Nat) : Int32 := if w = str 13 then 0 else if w = str 14 then 1 else if w = str 15 then 2 else if w = str 18 then 3 else if w = str 20 then 4 else -1
theorem xl_ldI {ν : XN} {r k n : Nat} {w : List Nat} {x2 : Int32} {Q : Int32 → XN → Prop} {E : XN → Prop} (h : SRep ν.2 r w) (hk : rk ν.2 r = 11) (ho : HOk ν.2 r w) (hW : ∀ ν', ν'.1 = ν.1 → Chg (fun a => a = r) ν.2 ν'.2 → xWs ν')
    (hQ : ∀ ν', ν'.1 = ν.1 → Chg (fun a => a = r) ν.2 ν'.2 → SRep ν'.2 r w → HOk ν'.2 r w → rk ν'.2 r = 11 → xw_X2_laid_132 x2 (ldI w) ν' k n Q E) : xw_X2_laid r x2 ν k n Q E := by
  unfold xw_X2_laid
  refine ⟨h.1, xl_hash h hk ho (fun ν1 f1 c1 s1 o1 => ?_)⟩
  have W1 := hW ν1 f1 c1
  have k1 : rk ν1.2 r = 11 := by rw [(c1.1 r (by rw [hk]; decide)).1]; exact hk
  have hq := hQ ν1 f1 c1 s1 o1 k1
  have n13 : w = str 13 → hsh w = 3202466 := fun z => by rw [z]; exact hsh_w.1
  have n14 : w = str 14 → hsh w = 110546223 := fun z => by rw [z]; exact hsh_w.2.1
  have n15 : w = str 15 → hsh w = -991716523 := fun z => by rw [z]; exact hsh_w.2.2.1
  have n18 : w = str 18 → hsh w = 102204232 := fun z => by rw [z]; exact hsh_w.2.2.2.1
  have n20 : w = str 20 → hsh w = 3003674 := fun z => by rw [z]; exact hsh_w.2.2.2.2
  refine ⟨fun z => ?_, fun z15 => ?_⟩
  · intro b4 hb4
    obtain ⟨mA, m1, m2⟩ := W1.1 7 (by decide)
    rw [hb4] at m1
    cases m1
    rw [cW_s.2.2.1] at m2
    refine ⟨s1.1, xl_eq s1 m2 ?_⟩
    have e13 : ¬ w = str 13 := fun y => absurd ((n13 y).symm.trans z) (by decide)
    have e14 : ¬ w = str 14 := fun y => absurd ((n14 y).symm.trans z) (by decide)
    have e18 : ¬ w = str 18 := fun y => absurd ((n18 y).symm.trans z) (by decide)
    have e20 : ¬ w = str 20 := fun y => absurd ((n20 y).symm.trans z) (by decide)
    by_cases hw : w = str 15
    · rw [if_pos hw]
      refine ⟨fun y => absurd y (by decide), fun _ => ?_⟩
      unfold ldI at hq
      rw [if_neg e13, if_neg e14, if_pos hw] at hq
      exact hq
    · rw [if_neg hw]
      refine ⟨fun _ => ?_, fun y => absurd rfl y⟩
      unfold ldI at hq
      rw [if_neg e13, if_neg e14, if_neg hw, if_neg e18, if_neg e20] at hq
      exact hq
  refine ⟨fun z => ?_, fun z20 => ?_⟩
  · intro b4 hb4
    obtain ⟨mA, m1, m2⟩ := W1.1 9 (by decide)
    rw [hb4] at m1
    cases m1
    rw [cW_s.2.2.2.2.1] at m2
    refine ⟨s1.1, xl_eq s1 m2 ?_⟩
    have e13 : ¬ w = str 13 := fun y => absurd ((n13 y).symm.trans z) (by decide)
    have e14 : ¬ w = str 14 := fun y => absurd ((n14 y).symm.trans z) (by decide)
    have e15 : ¬ w = str 15 := fun y => absurd ((n15 y).symm.trans z) (by decide)
    have e18 : ¬ w = str 18 := fun y => absurd ((n18 y).symm.trans z) (by decide)
    by_cases hw : w = str 20
    · rw [if_pos hw]
      refine ⟨fun y => absurd y (by decide), fun _ => ?_⟩
      unfold ldI at hq
      rw [if_neg e13, if_neg e14, if_neg e15, if_neg e18, if_pos hw] at hq
      exact hq
    · rw [if_neg hw]
      refine ⟨fun _ => ?_, fun y => absurd rfl y⟩
      unfold ldI at hq
      rw [if_neg e13, if_neg e14, if_neg e15, if_neg e18, if_neg hw] at hq
      exact hq
  refine ⟨fun z => ?_, fun z13 => ?_⟩
  · intro b4 hb4
    obtain ⟨mA, m1, m2⟩ := W1.1 5 (by decide)
    rw [hb4] at m1
    cases m1
    rw [cW_s.1] at m2
    refine ⟨s1.1, xl_eq s1 m2 ?_⟩
    have e14 : ¬ w = str 14 := fun y => absurd ((n14 y).symm.trans z) (by decide)
    have e15 : ¬ w = str 15 := fun y => absurd ((n15 y).symm.trans z) (by decide)
    have e18 : ¬ w = str 18 := fun y => absurd ((n18 y).symm.trans z) (by decide)
    have e20 : ¬ w = str 20 := fun y => absurd ((n20 y).symm.trans z) (by decide)
    by_cases hw : w = str 13
    · rw [if_pos hw]
      refine ⟨fun y => absurd y (by decide), fun _ => ?_⟩
      unfold ldI at hq
      rw [if_pos hw] at hq
      exact hq
    · rw [if_neg hw]
      refine ⟨fun _ => ?_, fun y => absurd rfl y⟩
      unfold ldI at hq
      rw [if_neg hw, if_neg e14, if_neg e15, if_neg e18, if_neg e20] at hq
      exact hq
  refine ⟨fun z => ?_, fun z18 => ?_⟩
  · intro b4 hb4
    obtain ⟨mA, m1, m2⟩ := W1.1 8 (by decide)
    rw [hb4] at m1
    cases m1
    rw [cW_s.2.2.2.1] at m2
    refine ⟨s1.1, xl_eq s1 m2 ?_⟩
    have e13 : ¬ w = str 13 := fun y => absurd ((n13 y).symm.trans z) (by decide)
    have e14 : ¬ w = str 14 := fun y => absurd ((n14 y).symm.trans z) (by decide)
    have e15 : ¬ w = str 15 := fun y => absurd ((n15 y).symm.trans z) (by decide)
    have e20 : ¬ w = str 20 := fun y => absurd ((n20 y).symm.trans z) (by decide)
    by_cases hw : w = str 18
    · rw [if_pos hw]
      refine ⟨fun y => absurd y (by decide), fun _ => ?_⟩
      unfold ldI at hq
      rw [if_neg e13, if_neg e14, if_neg e15, if_pos hw] at hq
      exact hq
    · rw [if_neg hw]
      refine ⟨fun _ => ?_, fun y => absurd rfl y⟩
      unfold ldI at hq
      rw [if_neg e13, if_neg e14, if_neg e15, if_neg hw, if_neg e20] at hq
      exact hq
  refine ⟨fun z => ?_, fun z14 => ?_⟩
  · intro b4 hb4
    obtain ⟨mA, m1, m2⟩ := W1.1 6 (by decide)
    rw [hb4] at m1
    cases m1
    rw [cW_s.2.1] at m2
    refine ⟨s1.1, xl_eq s1 m2 ?_⟩
    have e13 : ¬ w = str 13 := fun y => absurd ((n13 y).symm.trans z) (by decide)
    have e15 : ¬ w = str 15 := fun y => absurd ((n15 y).symm.trans z) (by decide)
    have e18 : ¬ w = str 18 := fun y => absurd ((n18 y).symm.trans z) (by decide)
    have e20 : ¬ w = str 20 := fun y => absurd ((n20 y).symm.trans z) (by decide)
    by_cases hw : w = str 14
    · rw [if_pos hw]
      refine ⟨fun y => absurd y (by decide), fun _ => ?_⟩
      unfold ldI at hq
      rw [if_neg e13, if_pos hw] at hq
      exact hq
    · rw [if_neg hw]
      refine ⟨fun _ => ?_, fun y => absurd rfl y⟩
      unfold ldI at hq
      rw [if_neg e13, if_neg hw, if_neg e15, if_neg e18, if_neg e20] at hq
      exact hq
  unfold ldI at hq
  rw [if_neg (fun y => z13 (n13 y)), if_neg (fun y => z14 (n14 y)), if_neg (fun y => z15 (n15 y)), if_neg (fun y => z18 (n18 y)), if_neg (fun y => z20 (n20 y))] at hq
  exact hq
def mrI (w : List Nat) : Int32 := if w = str 21 then 0 else if w = str 22 then 1 else if w = str 23 then 2 else if w = str 24 then 3 else -1
theorem xl_mrI {ν : XN} {r k n : Nat} {w : List Nat} {x2 : Int32} {AT FC : XN → Nat → Nat → (Nat → XN → Prop) → (XN → Prop) → Prop} {Q E : XN → Prop} (h : SRep ν.2 r w) (hk : rk ν.2 r = 11) (ho : HOk ν.2 r w) (hW : ∀ ν', ν'.1 = ν.1 → Chg (fun a => a = r) ν.2 ν'.2 → xWs ν')
    (hQ : ∀ ν', ν'.1 = ν.1 → Chg (fun a => a = r) ν.2 ν'.2 → SRep ν'.2 r w → HOk ν'.2 r w → rk ν'.2 r = 11 → xw_X2_more_109 AT FC x2 (mrI w) ν' k n Q E) : xw_X2_more AT FC r x2 ν k n Q E := by
  unfold xw_X2_more
  refine ⟨h.1, xl_hash h hk ho (fun ν1 f1 c1 s1 o1 => ?_)⟩
  have W1 := hW ν1 f1 c1
  have k1 : rk ν1.2 r = 11 := by rw [(c1.1 r (by rw [hk]; decide)).1]; exact hk
  have hq := hQ ν1 f1 c1 s1 o1 k1
  have n21 : w = str 21 → hsh w = 102970056 := fun z => by rw [z]; exact hsh_w2.1
  have n22 : w = str 22 → hsh w = 110369291 := fun z => by rw [z]; exact hsh_w2.2.1
  have n23 : w = str 23 → hsh w = 99459988 := fun z => by rw [z]; exact hsh_w2.2.2.1
  have n24 : w = str 24 → hsh w = 94935213 := fun z => by rw [z]; exact hsh_w2.2.2.2
  refine ⟨fun z => ?_, fun z24 => ?_⟩
  · intro b4 hb4
    obtain ⟨mA, m1, m2⟩ := W1.1 13 (by decide)
    rw [hb4] at m1
    cases m1
    rw [cW_s.2.2.2.2.2.2.2.2] at m2
    refine ⟨s1.1, xl_eq s1 m2 ?_⟩
    have e21 : ¬ w = str 21 := fun y => absurd ((n21 y).symm.trans z) (by decide)
    have e22 : ¬ w = str 22 := fun y => absurd ((n22 y).symm.trans z) (by decide)
    have e23 : ¬ w = str 23 := fun y => absurd ((n23 y).symm.trans z) (by decide)
    by_cases hw : w = str 24
    · rw [if_pos hw]
      refine ⟨fun y => absurd y (by decide), fun _ => ?_⟩
      unfold mrI at hq
      rw [if_neg e21, if_neg e22, if_neg e23, if_pos hw] at hq
      exact hq
    · rw [if_neg hw]
      refine ⟨fun _ => ?_, fun y => absurd rfl y⟩
      unfold mrI at hq
      rw [if_neg e21, if_neg e22, if_neg e23, if_neg hw] at hq
      exact hq
  refine ⟨fun z => ?_, fun z23 => ?_⟩
  · intro b4 hb4
    obtain ⟨mA, m1, m2⟩ := W1.1 12 (by decide)
    rw [hb4] at m1
    cases m1
    rw [cW_s.2.2.2.2.2.2.2.1] at m2
    refine ⟨s1.1, xl_eq s1 m2 ?_⟩
    have e21 : ¬ w = str 21 := fun y => absurd ((n21 y).symm.trans z) (by decide)
    have e22 : ¬ w = str 22 := fun y => absurd ((n22 y).symm.trans z) (by decide)
    have e24 : ¬ w = str 24 := fun y => absurd ((n24 y).symm.trans z) (by decide)
    by_cases hw : w = str 23
    · rw [if_pos hw]
      refine ⟨fun y => absurd y (by decide), fun _ => ?_⟩
      unfold mrI at hq
      rw [if_neg e21, if_neg e22, if_pos hw] at hq
      exact hq
    · rw [if_neg hw]
      refine ⟨fun _ => ?_, fun y => absurd rfl y⟩
      unfold mrI at hq
      rw [if_neg e21, if_neg e22, if_neg hw, if_neg e24] at hq
      exact hq
  refine ⟨fun z => ?_, fun z21 => ?_⟩
  · intro b4 hb4
    obtain ⟨mA, m1, m2⟩ := W1.1 10 (by decide)
    rw [hb4] at m1
    cases m1
    rw [cW_s.2.2.2.2.2.1] at m2
    refine ⟨s1.1, xl_eq s1 m2 ?_⟩
    have e22 : ¬ w = str 22 := fun y => absurd ((n22 y).symm.trans z) (by decide)
    have e23 : ¬ w = str 23 := fun y => absurd ((n23 y).symm.trans z) (by decide)
    have e24 : ¬ w = str 24 := fun y => absurd ((n24 y).symm.trans z) (by decide)
    by_cases hw : w = str 21
    · rw [if_pos hw]
      refine ⟨fun y => absurd y (by decide), fun _ => ?_⟩
      unfold mrI at hq
      rw [if_pos hw] at hq
      exact hq
    · rw [if_neg hw]
      refine ⟨fun _ => ?_, fun y => absurd rfl y⟩
      unfold mrI at hq
      rw [if_neg hw, if_neg e22, if_neg e23, if_neg e24] at hq
      exact hq
  refine ⟨fun z => ?_, fun z22 => ?_⟩
  · intro b4 hb4
    obtain ⟨mA, m1, m2⟩ := W1.1 11 (by decide)
    rw [hb4] at m1
    cases m1
    rw [cW_s.2.2.2.2.2.2.1] at m2
    refine ⟨s1.1, xl_eq s1 m2 ?_⟩
    have e21 : ¬ w = str 21 := fun y => absurd ((n21 y).symm.trans z) (by decide)
    have e23 : ¬ w = str 23 := fun y => absurd ((n23 y).symm.trans z) (by decide)
    have e24 : ¬ w = str 24 := fun y => absurd ((n24 y).symm.trans z) (by decide)
    by_cases hw : w = str 22
    · rw [if_pos hw]
      refine ⟨fun y => absurd y (by decide), fun _ => ?_⟩
      unfold mrI at hq
      rw [if_neg e21, if_pos hw] at hq
      exact hq
    · rw [if_neg hw]
      refine ⟨fun _ => ?_, fun y => absurd rfl y⟩
      unfold mrI at hq
      rw [if_neg e21, if_neg hw, if_neg e23, if_neg e24] at hq
      exact hq
  unfold mrI at hq
  rw [if_neg (fun y => z21 (n21 y)), if_neg (fun y => z22 (n22 y)), if_neg (fun y => z23 (n23 y)), if_neg (fun y => z24 (n24 y))] at hq
  exact hq
