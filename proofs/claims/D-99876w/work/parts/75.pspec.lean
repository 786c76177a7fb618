/-! THE SPECIFICATION of reading: the tape t of e bytes, a place a; an answer with the next place, or a fault and its place -/
abbrev PR (α : Type) : Type := (α × Nat) ⊕ (Nat × Nat)
def pB {α β : Type} (r : PR α) (f : α → Nat → PR β) : PR β := match r with
  | .inl q => f q.1 q.2
  | .inr x => .inr x
/-- as far as bytes are so -/
def runF (p : Nat → Bool) (t : Nat → Nat) (e : Nat) : Nat → Nat → Nat
  | 0, a => a
  | f + 1, a => if a < e ∧ p (t a) = true then runF p t e f (a + 1) else a
def run (p : Nat → Bool) (t : Nat → Nat) (e a : Nat) : Nat := runF p t e (e - a) a
theorem run_go {p : Nat → Bool} {t : Nat → Nat} {e a : Nat} (h : a < e) (hp : p (t a) = true) : run p t e a = run p t e (a + 1) := by
  unfold run
  obtain ⟨n, hn⟩ : ∃ n, e - a = n + 1 := ⟨e - a - 1, by omega⟩
  rw [hn, show e - (a + 1) = n by omega]
  simp [runF, h, hp]
theorem run_stop {p : Nat → Bool} {t : Nat → Nat} {e a : Nat} (h : ¬ (a < e ∧ p (t a) = true)) : run p t e a = a := by
  unfold run
  cases hn : e - a with
  | zero => rfl
  | succ n => simp only [runF]; rw [if_neg h]
theorem run_spec (p : Nat → Bool) (t : Nat → Nat) (e : Nat) : ∀ (n a : Nat), e - a = n → a ≤ e → a ≤ run p t e a ∧ run p t e a ≤ e ∧ ¬ (run p t e a < e ∧ p (t (run p t e a)) = true) ∧ ∀ i, a ≤ i → i < run p t e a → p (t i) = true
  | 0, a, hn, ha => by
    rw [run_stop (by omega)]
    exact ⟨Nat.le_refl _, ha, by omega, fun i h1 h2 => by omega⟩
  | n + 1, a, hn, ha => by
    by_cases hp : p (t a) = true
    · rw [run_go (by omega) hp]
      obtain ⟨h1, h2, h3, h4⟩ := run_spec p t e n (a + 1) (by omega) (by omega)
      refine ⟨by omega, h2, h3, fun i hi1 hi2 => ?_⟩
      rcases Nat.lt_or_ge a i with w | w
      · exact h4 i (by omega) hi2
      · have : i = a := by omega
        subst this; exact hp
    · have hs : ¬ (a < e ∧ p (t a) = true) := fun q => hp q.2
      rw [run_stop hs]
      exact ⟨Nat.le_refl _, ha, hs, fun i h1 h2 => by omega⟩
def isBl (c : Nat) : Bool := decide (c = 10 ∨ c = 32)
def isLt (c : Nat) : Bool := decide (97 ≤ c ∧ c ≤ 122)
def isDg (c : Nat) : Bool := decide (48 ≤ c ∧ c ≤ 57)
def lk (t : Nat → Nat) (e a : Nat) : Nat := run isBl t e a
def wE (t : Nat → Nat) (e a : Nat) : Nat := run isLt t e a
def dE (t : Nat → Nat) (e a : Nat) : Nat := run isDg t e a
/-- the byte at a place; 999 at the end -/
def bt (t : Nat → Nat) (e a : Nat) : Nat := if a < e then t a else 999
/-- right behind a letter or a digit -/
def prt (t : Nat → Nat) (a : Nat) : Bool := decide (0 < a) && (isLt (t (a - 1)) || isDg (t (a - 1)))
def wd (t : Nat → Nat) (a b : Nat) : List Nat := (List.range (b - a)).map (fun i => t (a + i))
theorem wd_len (t : Nat → Nat) (a b : Nat) : (wd t a b).length = b - a := by simp [wd]
theorem wd_at {t : Nat → Nat} {a b i : Nat} (h : i < b - a) : (wd t a b)[i]? = some (t (a + i)) := by
  unfold wd
  rw [List.getElem?_map, List.getElem?_range h]; rfl
theorem wd_cons {t : Nat → Nat} {a b : Nat} (h : a < b) : wd t a b = t a :: wd t (a + 1) b := by
  apply List.ext_getElem?
  intro i
  cases i with
  | zero => rw [wd_at (by omega)]; simp
  | succ i =>
    rw [List.getElem?_cons_succ]
    rcases Nat.lt_or_ge (i + 1) (b - a) with w | w
    · rw [wd_at w, wd_at (by omega)]; congr 2; omega
    · rw [List.getElem?_eq_none_iff.mpr (by rw [wd_len]; omega), List.getElem?_eq_none_iff.mpr (by rw [wd_len]; omega)]
theorem wd_nil {t : Nat → Nat} {a b : Nat} (h : b ≤ a) : wd t a b = [] := by
  have := wd_len t a b
  exact List.eq_nil_of_length_eq_zero (by omega)
def pWord (t : Nat → Nat) (e a : Nat) : PR (List Nat × Nat) := if isLt (bt t e (lk t e a)) = true ∧ prt t (lk t e a) = false then .inl ((wd t (lk t e a) (wE t e (lk t e a)), lk t e a), wE t e (lk t e a)) else .inr (1, lk t e a)
def pExp (w : List Nat) (t : Nat → Nat) (e a : Nat) : PR Unit := pB (pWord t e a) (fun q b => if q.1 = w then .inl ((), b) else .inr (1, q.2))
def val (l : List Nat) : Nat := l.foldl (fun v c => 10 * v + (c - 48)) 0
def pNum (lo hi : Nat) (t : Nat → Nat) (e a : Nat) : PR (Nat × Nat) :=
  if isDg (bt t e (lk t e a)) = true ∧ prt t (lk t e a) = false then
    (if lk t e a + 4 < dE t e (lk t e a) then .inr (1, lk t e a + 4)
    else if lo ≤ val (wd t (lk t e a) (dE t e (lk t e a))) ∧ val (wd t (lk t e a) (dE t e (lk t e a))) ≤ hi then .inl ((val (wd t (lk t e a) (dE t e (lk t e a))), lk t e a), dE t e (lk t e a)) else .inr (2, lk t e a))
  else .inr (1, lk t e a)
def pSign (c : Nat) (t : Nat → Nat) (e a : Nat) : PR Unit := if bt t e (lk t e a) = c then .inl ((), lk t e a + 1) else .inr (1, lk t e a)
def own : List (List Nat) := (List.range 27).map (fun i => str (11 + i))
def pName (t : Nat → Nat) (e a : Nat) : PR (List Nat × Nat) := pB (pWord t e a) (fun q b => if own.contains q.1 = true then .inr (1, q.2) else if 6 < q.1.length then .inr (1, q.2 + 6) else .inl (q, b))
theorem lk_spec {t : Nat → Nat} {e a : Nat} (ha : a ≤ e) : a ≤ lk t e a ∧ lk t e a ≤ e ∧ isBl (bt t e (lk t e a)) = false ∧ ∀ i, a ≤ i → i < lk t e a → isBl (t i) = true := by
  obtain ⟨h1, h2, h3, h4⟩ := run_spec isBl t e _ a rfl ha
  refine ⟨h1, h2, ?_, h4⟩
  show isBl (bt t e (run isBl t e a)) = false
  unfold bt
  split
  · rename_i hlt
    cases hb : isBl (t (run isBl t e a)) with
    | false => rfl
    | true => exact absurd ⟨hlt, hb⟩ h3
  · decide
theorem lk_lk {t : Nat → Nat} {e a : Nat} (ha : a ≤ e) : lk t e (lk t e a) = lk t e a := by
  obtain ⟨h1, h2, h3, -⟩ := run_spec isBl t e _ a rfl ha
  exact run_stop h3
theorem isBl_no {c : Nat} (h : isBl c = true) : isLt c = false ∧ isDg c = false := by
  unfold isBl isLt isDg at *
  rw [decide_eq_true_iff] at h
  exact ⟨decide_eq_false (by omega), decide_eq_false (by omega)⟩
/-- behind blanks nothing is right behind a letter -/
theorem prt_lk {t : Nat → Nat} {e a : Nat} (ha : a ≤ e) (h : a < lk t e a) : prt t (lk t e a) = false := by
  have h4 := (lk_spec (t := t) ha).2.2.2 (lk t e a - 1) (by omega) (by omega)
  obtain ⟨h5, h6⟩ := isBl_no h4
  unfold prt
  rw [h5, h6]; simp
