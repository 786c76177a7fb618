/-! THE SPECIFICATION both classes are tied to: the land, its state, what is asked of it -/
/-- day, heights by 8 * row + column, people's cells, tiredness, what they know, what is kept -/
abbrev St : Type := Nat × (Nat → Nat) × (Nat → Nat) × (Nat → Nat) × (Nat → Nat) × List (Nat × Nat × Nat × Nat)
def zD (s : St) : Nat := s.1
def zH (s : St) : Nat → Nat := s.2.1
def zA (s : St) : Nat → Nat := s.2.2.1
def zT (s : St) : Nat → Nat := s.2.2.2.1
def zK (s : St) : Nat → Nat := s.2.2.2.2.1
def zE (s : St) : List (Nat × Nat × Nat × Nat) := s.2.2.2.2.2
def up (f : Nat → Nat) (a v : Nat) : Nat → Nat := fun x => if x = a then v else f x
theorem up_eq (f : Nat → Nat) (a v : Nat) : up f a v a = v := by simp [up]
theorem up_ne {f : Nat → Nat} {a v x : Nat} (h : x ≠ a) : up f a v x = f x := by simp [up, h]
/-- columns, rows, crowd; names of topics, of people, the list; codes of lifts, tires, holds -/
abbrev Pl : Type := (Nat × Nat × Nat) × (List (List Nat) × List (List Nat) × List (Nat × Nat)) × (Option (List Nat) × Option (List Nat) × Option (List Nat))
def plC (P : Pl) : Nat := P.1.1
def plR (P : Pl) : Nat := P.1.2.1
def plW (P : Pl) : Nat := P.1.2.2
def plT (P : Pl) : List (List Nat) := P.2.1.1
def plN (P : Pl) : List (List Nat) := P.2.1.2.1
def plL (P : Pl) : List (Nat × Nat) := P.2.1.2.2
def plF (P : Pl) : Option (List Nat) := P.2.2.1
def plG (P : Pl) : Option (List Nat) := P.2.2.2.1
def plH (P : Pl) : Option (List Nat) := P.2.2.2.2
def nT (P : Pl) : Nat := (plT P).length
def nP (P : Pl) : Nat := (plN P).length
def isC (P : Pl) (c : Nat) : Prop := c % 8 < plC P ∧ c / 8 < plR P
def cls (P : Pl) : List Nat := (List.range 64).filter (fun c => decide (c % 8 < plC P ∧ c / 8 < plR P))
/-! codes: from 1000 numbers, 60 61 of a number, from 40 parts, 13 all, 12 not, 1 + 2 - 3 * 4 / 5 min 6 max 7 < 8 > 9 = 10 and 11 or -/
def clp (v : Int) : Int := if 1000000 < v then 1000000 else if v < -1000000 then -1000000 else v
def opv (c : Nat) (a b : Int) : Int :=
  if c = 1 then clp (a + b) else if c = 2 then clp (a - b) else if c = 3 then clp (a * b) else if c = 4 then (if b = 0 then 0 else a.fdiv b)
  else if c = 5 then (if a < b then a else b) else if c = 6 then (if b < a then a else b) else if c = 7 then (if a < b then 1 else 0)
  else if c = 8 then (if b < a then 1 else 0) else if c = 9 then (if a = b then 1 else 0) else if c = 10 then a * b else (if 0 < a + b then 1 else 0)
def evS (pt : Nat → Int) (lk : Nat → Int → Int) (c : Nat) (k : List Int) : List Int :=
  if 1000 ≤ c then ((c - 1000 : Nat) : Int) :: k
  else if 60 ≤ c then (match k with | a :: r => clp (lk (c - 60) a) :: r | [] => [])
  else if 40 ≤ c then pt (c - 40) :: k
  else if c = 13 then 1 :: k
  else if c = 12 then (match k with | a :: r => (1 - a) :: r | [] => [])
  else (match k with | b :: a :: r => opv c a b :: r | _ => [])
def evL (pt : Nat → Int) (lk : Nat → Int → Int) : List Nat → List Int → List Int
  | [], k => k
  | c :: cs, k => evL pt lk cs (evS pt lk c k)
def evV (pt : Nat → Int) (lk : Nat → Int → Int) (cs : List Nat) : Int := (evL pt lk cs []).headD 0
theorem evL_app (pt : Nat → Int) (lk : Nat → Int → Int) : ∀ (a b : List Nat) (k : List Int), evL pt lk (a ++ b) k = evL pt lk b (evL pt lk a k)
  | [], _, _ => rfl
  | c :: a, b, k => by simp only [List.cons_append, evL]; exact evL_app pt lk a b _
/-- kinds on the pile: true a test, false a number; al: the parts that may be named -/
def tyS (al : Nat → Bool) (c : Nat) (k : List Bool) : Option (List Bool) :=
  if 1000 ≤ c then (if c < 11000 then some (false :: k) else none)
  else if 60 ≤ c then (if c < 62 ∧ al (c - 51) = true then (match k with | false :: r => some (false :: r) | _ => none) else none)
  else if 40 ≤ c then (if c < 49 ∧ al (c - 40) = true then some (false :: k) else none)
  else if c = 13 then some (true :: k)
  else if c = 12 then (match k with | true :: r => some (true :: r) | _ => none)
  else if c = 0 ∨ 11 < c then none
  else if c < 7 then (match k with | false :: false :: r => some (false :: r) | _ => none)
  else if c < 10 then (match k with | false :: false :: r => some (true :: r) | _ => none)
  else (match k with | true :: true :: r => some (true :: r) | _ => none)
def tyL (al : Nat → Bool) : List Nat → List Bool → Option (List Bool)
  | [], k => some k
  | c :: cs, k => (tyS al c k).bind (tyL al cs)
theorem tyL_app (al : Nat → Bool) : ∀ (a b : List Nat) (k : List Bool), tyL al (a ++ b) k = (tyL al a k).bind (tyL al b)
  | [], _, _ => rfl
  | c :: a, b, k => by
    simp only [List.cons_append, tyL]
    cases h : tyS al c k with
    | none => rfl
    | some k' => exact tyL_app al a b k'
/-- what the pile holds fits the kinds -/
def fitV : List Bool → List Int → Prop
  | [], [] => True
  | b :: r, v :: k => (if b = true then v = 0 ∨ v = 1 else -1000000 ≤ v ∧ v ≤ 1000000) ∧ fitV r k
  | _, _ => False
theorem clp_in (v : Int) : -1000000 ≤ clp v ∧ clp v ≤ 1000000 := by unfold clp; (repeat' split) <;> omega
theorem fdiv_in {a b : Int} (ha : -1000000 ≤ a ∧ a ≤ 1000000) (hb : b ≠ 0) : -1000000 ≤ a.fdiv b ∧ a.fdiv b ≤ 1000000 := by
  have key : ∀ x y : Int, 0 < y → -1000000 ≤ x → x ≤ 1000000 → -1000000 ≤ x / y ∧ x / y ≤ 1000000 := by
    intro x y hy h1 h2
    constructor
    · exact Int.le_ediv_of_mul_le hy (by omega)
    · exact Int.ediv_le_of_le_mul hy (by omega)
  rcases Int.lt_or_lt_of_ne hb with h | h
  · have e0 := Int.mul_ediv_add_emod a b
    have r0 := Int.emod_nonneg a hb
    have r1 : a % b < -b := Int.emod_lt_of_neg a h
    have m1 : 0 ≤ a / b → b * (a / b) ≤ -1 * (a / b) := fun z => Int.mul_le_mul_of_nonneg_right (by omega) z
    have m2 : a / b ≤ 0 → -1 * (a / b) ≤ b * (a / b) := fun z => Int.mul_le_mul_of_nonpos_right (by omega) z
    have m3 : 0 ≤ a / b - 1 → b * (a / b - 1) ≤ -1 * (a / b - 1) := fun z => Int.mul_le_mul_of_nonneg_right (by omega) z
    have m4 : b * (a / b - 1) = b * (a / b) - b := by rw [Int.mul_sub, Int.mul_one]
    rw [Int.fdiv_eq_ediv]
    by_cases hd : b ∣ a
    · have := Int.emod_eq_zero_of_dvd hd
      rw [if_pos (Or.inr hd)]
      omega
    · have : a % b ≠ 0 := fun z => hd (Int.dvd_of_emod_eq_zero z)
      rw [if_neg (by omega)]
      omega
  · rw [Int.fdiv_eq_ediv_of_nonneg a (by omega)]
    exact key a b h ha.1 ha.2
theorem fitV_len : ∀ {k : List Bool} {l : List Int}, fitV k l → k.length = l.length
  | [], [], _ => rfl
  | b :: r, v :: k, h => by simp only [List.length_cons]; rw [fitV_len h.2]
  | [], _ :: _, h => h.elim
  | _ :: _, [], h => h.elim
theorem tyS_cases {al : Nat → Bool} {c : Nat} {k k' : List Bool} (ht : tyS al c k = some k') :
    (1000 ≤ c ∧ c < 11000 ∧ k' = false :: k) ∨ (60 ≤ c ∧ c < 62 ∧ al (c - 51) = true ∧ ∃ r, k = false :: r ∧ k' = false :: r) ∨ (40 ≤ c ∧ c < 49 ∧ al (c - 40) = true ∧ k' = false :: k) ∨ (c = 13 ∧ k' = true :: k) ∨ (c = 12 ∧ ∃ r, k = true :: r ∧ k' = true :: r)
    ∨ (1 ≤ c ∧ c < 7 ∧ ∃ r, k = false :: false :: r ∧ k' = false :: r) ∨ (7 ≤ c ∧ c < 10 ∧ ∃ r, k = false :: false :: r ∧ k' = true :: r) ∨ (10 ≤ c ∧ c ≤ 11 ∧ ∃ r, k = true :: true :: r ∧ k' = true :: r) := by
  unfold tyS at ht
  split at ht
  · split at ht
    · cases ht; exact Or.inl ⟨by assumption, by assumption, rfl⟩
    · cases ht
  · split at ht
    · split at ht
      · rename_i h1 h2
        match k, ht with
        | false :: r, ht => cases ht; exact Or.inr (Or.inl ⟨h1, h2.1, h2.2, r, rfl, rfl⟩)
        | true :: r, ht => cases ht
        | [], ht => cases ht
      · cases ht
    · split at ht
      · split at ht
        · rename_i h1 h2
          cases ht; exact Or.inr (Or.inr (Or.inl ⟨h1, h2.1, h2.2, rfl⟩))
        · cases ht
      · split at ht
        · rename_i h1; cases ht; exact Or.inr (Or.inr (Or.inr (Or.inl ⟨h1, rfl⟩)))
        · split at ht
          · rename_i h1
            match k, ht with
            | true :: r, ht => cases ht; exact Or.inr (Or.inr (Or.inr (Or.inr (Or.inl ⟨h1, r, rfl, rfl⟩))))
            | false :: r, ht => cases ht
            | [], ht => cases ht
          · split at ht
            · cases ht
            · split at ht
              · rename_i h1 h2
                match k, ht with
                | false :: false :: r, ht => cases ht; exact Or.inr (Or.inr (Or.inr (Or.inr (Or.inr (Or.inl ⟨by omega, h2, r, rfl, rfl⟩)))))
                | true :: _, ht => cases ht
                | [], ht => cases ht
                | [false], ht => cases ht
                | false :: true :: _, ht => cases ht
              · split at ht
                · rename_i h1 h2 h3
                  match k, ht with
                  | false :: false :: r, ht => cases ht; exact Or.inr (Or.inr (Or.inr (Or.inr (Or.inr (Or.inr (Or.inl ⟨by omega, h3, r, rfl, rfl⟩))))))
                  | true :: _, ht => cases ht
                  | [], ht => cases ht
                  | [false], ht => cases ht
                  | false :: true :: _, ht => cases ht
                · rename_i h1 h2 h3
                  match k, ht with
                  | true :: true :: r, ht => cases ht; exact Or.inr (Or.inr (Or.inr (Or.inr (Or.inr (Or.inr (Or.inr ⟨by omega, by omega, r, rfl, rfl⟩))))))
                  | false :: _, ht => cases ht
                  | [], ht => cases ht
                  | [true], ht => cases ht
                  | true :: false :: _, ht => cases ht
theorem fitV_1 {b : Bool} {r : List Bool} {l : List Int} (h : fitV (b :: r) l) : ∃ v l', l = v :: l' ∧ (if b = true then v = 0 ∨ v = 1 else -1000000 ≤ v ∧ v ≤ 1000000) ∧ fitV r l' := by
  cases l with
  | nil => exact h.elim
  | cons v l => exact ⟨v, l, rfl, h.1, h.2⟩
theorem opv_1 (a b : Int) : opv 1 a b = clp (a + b) := by unfold opv; rw [if_pos rfl]
theorem opv_2 (a b : Int) : opv 2 a b = clp (a - b) := by unfold opv; rw [if_neg (by decide), if_pos rfl]
theorem opv_3 (a b : Int) : opv 3 a b = clp (a * b) := by unfold opv; rw [if_neg (by decide), if_neg (by decide), if_pos rfl]
theorem opv_4 (a b : Int) : opv 4 a b = if b = 0 then 0 else a.fdiv b := by unfold opv; rw [if_neg (by decide), if_neg (by decide), if_neg (by decide), if_pos rfl]
theorem opv_10 (a b : Int) : opv 10 a b = a * b := by unfold opv; simp
theorem opv_V {c : Nat} {a b : Int} (hc : 1 ≤ c ∧ c < 7) (ha : -1000000 ≤ a ∧ a ≤ 1000000) (hb : -1000000 ≤ b ∧ b ≤ 1000000) : -1000000 ≤ opv c a b ∧ opv c a b ≤ 1000000 := by
  unfold opv
  repeat' split
  all_goals first | exact clp_in _ | omega | exact fdiv_in ha (by assumption)
theorem opv_T {c : Nat} {a b : Int} (hc : 7 ≤ c ∧ c < 10) : opv c a b = 0 ∨ opv c a b = 1 := by
  unfold opv
  repeat' split
  all_goals omega
theorem opv_TT {c : Nat} {a b : Int} (hc : 10 ≤ c ∧ c ≤ 11) (ha : a = 0 ∨ a = 1) (hb : b = 0 ∨ b = 1) : opv c a b = 0 ∨ opv c a b = 1 := by
  have : c = 10 ∨ c = 11 := by omega
  rcases this with rfl | rfl <;> rcases ha with rfl | rfl <;> rcases hb with rfl | rfl <;> decide
/-- what a code does, by its kind -/
theorem evS_num {pt : Nat → Int} {lk : Nat → Int → Int} {c : Nat} {l : List Int} (h : 1000 ≤ c) : evS pt lk c l = ((c - 1000 : Nat) : Int) :: l := by unfold evS; rw [if_pos h]
theorem evS_of {pt : Nat → Int} {lk : Nat → Int → Int} {c : Nat} {a : Int} {l : List Int} (h : 60 ≤ c) (h2 : c < 1000) : evS pt lk c (a :: l) = clp (lk (c - 60) a) :: l := by unfold evS; rw [if_neg (by omega), if_pos h]
theorem evS_pt {pt : Nat → Int} {lk : Nat → Int → Int} {c : Nat} {l : List Int} (h : 40 ≤ c) (h2 : c < 60) : evS pt lk c l = pt (c - 40) :: l := by unfold evS; rw [if_neg (by omega), if_neg (by omega), if_pos h]
theorem evS_13 {pt : Nat → Int} {lk : Nat → Int → Int} {l : List Int} : evS pt lk 13 l = 1 :: l := rfl
theorem evS_12 {pt : Nat → Int} {lk : Nat → Int → Int} {a : Int} {l : List Int} : evS pt lk 12 (a :: l) = (1 - a) :: l := rfl
theorem evS_op {pt : Nat → Int} {lk : Nat → Int → Int} {c : Nat} {a b : Int} {l : List Int} (h : c < 12) : evS pt lk c (b :: a :: l) = opv c a b :: l := by unfold evS; rw [if_neg (by omega), if_neg (by omega), if_neg (by omega), if_neg (by omega), if_neg (by omega)]
theorem evS_fit {pt : Nat → Int} {lk : Nat → Int → Int} {al : Nat → Bool} (hp : ∀ i, i < 9 → al i = true → -1000000 ≤ pt i ∧ pt i ≤ 1000000) {c : Nat} {k k' : List Bool} {l : List Int} (ht : tyS al c k = some k') (hf : fitV k l) : fitV k' (evS pt lk c l) := by
  rcases tyS_cases ht with ⟨h1, h2, rfl⟩ | ⟨h1, h2, h3, r, rfl, rfl⟩ | ⟨h1, h2, h3, rfl⟩ | ⟨rfl, rfl⟩ | ⟨rfl, r, rfl, rfl⟩ | ⟨h1, h2, r, rfl, rfl⟩ | ⟨h1, h2, r, rfl, rfl⟩ | ⟨h1, h2, r, rfl, rfl⟩
  · rw [evS_num h1]
    exact ⟨by simp only [Bool.false_eq_true, if_false]; omega, hf⟩
  · obtain ⟨v, l, rfl, hv, hf⟩ := fitV_1 hf
    rw [evS_of h1 (by omega)]
    exact ⟨by simpa using clp_in _, hf⟩
  · rw [evS_pt h1 (by omega)]
    exact ⟨by simpa using hp (c - 40) (by omega) h3, hf⟩
  · rw [evS_13]
    exact ⟨by simp, hf⟩
  · obtain ⟨v, l, rfl, hv, hf⟩ := fitV_1 hf
    rw [evS_12]
    simp only [if_true] at hv
    exact ⟨by simp only [if_true]; omega, hf⟩
  · obtain ⟨b, l, rfl, hb, hf⟩ := fitV_1 hf
    obtain ⟨a, l, rfl, ha, hf⟩ := fitV_1 hf
    simp only [Bool.false_eq_true, if_false] at ha hb
    rw [evS_op (by omega)]
    exact ⟨by simp only [Bool.false_eq_true, if_false]; exact opv_V ⟨h1, h2⟩ ha hb, hf⟩
  · obtain ⟨b, l, rfl, hb, hf⟩ := fitV_1 hf
    obtain ⟨a, l, rfl, ha, hf⟩ := fitV_1 hf
    rw [evS_op (by omega)]
    exact ⟨by simp only [if_true]; exact opv_T ⟨h1, h2⟩, hf⟩
  · obtain ⟨b, l, rfl, hb, hf⟩ := fitV_1 hf
    obtain ⟨a, l, rfl, ha, hf⟩ := fitV_1 hf
    simp only [if_true] at ha hb
    rw [evS_op (by omega)]
    exact ⟨by simp only [if_true]; exact opv_TT ⟨h1, h2⟩ ha hb, hf⟩
theorem evL_fit {pt : Nat → Int} {lk : Nat → Int → Int} {al : Nat → Bool} (hp : ∀ i, i < 9 → al i = true → -1000000 ≤ pt i ∧ pt i ≤ 1000000) : ∀ {cs : List Nat} {k k' : List Bool} {l : List Int}, tyL al cs k = some k' → fitV k l → fitV k' (evL pt lk cs l)
  | [], k, k', l, ht, hf => by cases ht; exact hf
  | c :: cs, k, k', l, ht, hf => by
    simp only [tyL] at ht
    cases h : tyS al c k with
    | none => rw [h] at ht; cases ht
    | some k1 => rw [h] at ht; exact evL_fit hp (cs := cs) ht (evS_fit hp h hf)
/-- a code names no part that isn't allowed: the others don't matter -/
theorem evS_al {pt pt' : Nat → Int} {lk : Nat → Int → Int} {al : Nat → Bool} (hp : ∀ i, i < 9 → al i = true → pt i = pt' i) {c : Nat} {k k' : List Bool} {l : List Int} (ht : tyS al c k = some k') : evS pt lk c l = evS pt' lk c l := by
  unfold evS
  rcases tyS_cases ht with ⟨h1, h2, rfl⟩ | ⟨h1, h2, h3, r, rfl, rfl⟩ | ⟨h1, h2, h3, rfl⟩ | ⟨rfl, rfl⟩ | ⟨rfl, r, rfl, rfl⟩ | ⟨h1, h2, r, rfl, rfl⟩ | ⟨h1, h2, r, rfl, rfl⟩ | ⟨h1, h2, r, rfl, rfl⟩
  · rw [if_pos h1, if_pos h1]
  · rw [if_neg (by omega), if_pos h1, if_neg (by omega), if_pos h1]
  · rw [if_neg (by omega), if_neg (by omega), if_pos h1, if_neg (by omega), if_neg (by omega), if_pos h1, hp (c - 40) (by omega) h3]
  · rfl
  · rfl
  · rw [if_neg (by omega), if_neg (by omega), if_neg (by omega), if_neg (by omega), if_neg (by omega), if_neg (by omega), if_neg (by omega), if_neg (by omega)]
  · rw [if_neg (by omega), if_neg (by omega), if_neg (by omega), if_neg (by omega), if_neg (by omega), if_neg (by omega), if_neg (by omega), if_neg (by omega)]
  · rw [if_neg (by omega), if_neg (by omega), if_neg (by omega), if_neg (by omega), if_neg (by omega), if_neg (by omega), if_neg (by omega), if_neg (by omega)]
theorem evL_al {pt pt' : Nat → Int} {lk : Nat → Int → Int} {al : Nat → Bool} (hp : ∀ i, i < 9 → al i = true → pt i = pt' i) : ∀ {cs : List Nat} {k k' : List Bool} {l : List Int}, tyL al cs k = some k' → evL pt lk cs l = evL pt' lk cs l
  | [], _, _, _, _ => rfl
  | c :: cs, k, k', l, ht => by
    simp only [tyL] at ht
    cases h : tyS al c k with
    | none => rw [h] at ht; cases ht
    | some k1 =>
      rw [h] at ht
      simp only [evL]
      rw [evS_al hp h]
      exact evL_al hp (cs := cs) ht
/-! the parts that may be named: of holds and tires, of lifts, of a question -/
def al0 (i : Nat) : Bool := decide (i < 5)
def al1 (i : Nat) : Bool := decide (i < 6)
def al2 (i : Nat) : Bool := decide (i < 4 ∨ 5 < i)
def popc (n : Nat) : Nat := ((List.range 8).filter (fun i => n.testBit i)).length
def zPt (s : St) (p t sd : Nat) (k : Nat) : Int :=
  if k = 0 then (zT s p : Int) else if k = 1 then (zH s (zA s p) : Int) else if k = 2 then (popc (zK s p) : Int) else if k = 3 then (zD s : Int) else if k = 4 then (t : Int) else if k = 5 then (sd : Int) else if k = 6 then (p : Int) else if k = 7 then ((zA s p % 8 : Nat) : Int) else ((zA s p / 8 : Nat) : Int)
def lk0 : Nat → Int → Int := fun _ _ => 0
def zWo (P : Pl) (sil : Nat) (s : St) (p t : Nat) : Nat :=
  if zK s p / 2 ^ t % 2 = 1 ∨ sil / 2 ^ p % 2 = 1 then 0 else match plH P with
    | none => 2
    | some cs => if evV (zPt s p t 0) lk0 cs = 1 then 1 else 2
def cut9 (v : Int) : Nat := if v < 0 then 0 else if 9 < v then 9 else v.toNat
def zTm (P : Pl) (s : St) (p t sd : Nat) : Nat := match plF P with
  | none => 3
  | some cs => cut9 (evV (zPt s p t sd) lk0 cs)
def hiS (h : Nat → Nat) (own : Nat) (b : Option Nat) (c : Nat) : Option Nat :=
  if c / 8 = own / 8 ∧ c ≤ own + 1 ∧ own ≤ c + 1 then b else match b with
    | none => some c
    | some d => if h d < h c then some c else some d
def zHi (P : Pl) (h : Nat → Nat) (own : Nat) : Option Nat := (cls P).foldl (hiS h own) none
def zLf (P : Pl) (own side : Nat) : Nat → (Nat → Nat) → Nat × (Nat → Nat)
  | 0, h => (0, h)
  | n + 1, h => match zHi P h own with
    | none => (0, h)
    | some f => if h f = 0 ∨ h side = 99 then (0, h) else ((zLf P own side n (up (up h f (h f - 1)) side (h side + 1))).1 + 1, (zLf P own side n (up (up h f (h f - 1)) side (h side + 1))).2)
def setH (s : St) (h : Nat → Nat) : St := (zD s, h, zA s, zT s, zK s, zE s)
def keep (l : List (Nat × Nat × Nat × Nat)) (r : Nat × Nat × Nat × Nat) : List (Nat × Nat × Nat × Nat) := (if l.length = 40 then l.drop 1 else l) ++ [r]
def zLl (P : Pl) (s : St) (p t : Nat) : Nat × (Nat → Nat) := if 0 < zA s p % 8 then zLf P (zA s p) (zA s p - 1) (zTm P s p t (zH s (zA s p - 1))) (zH s) else (0, zH s)
def zLr (P : Pl) (s : St) (p t : Nat) : Nat × (Nat → Nat) := if zA s p % 8 + 1 < plC P then zLf P (zA s p) (zA s p + 1) (zTm P s p t (zH s (zA s p + 1))) (zH s) else (0, zH s)
def zTi (P : Pl) (s : St) (p t : Nat) : Nat := match plG P with
  | none => min 9 (zT s p + 1)
  | some cs => cut9 (evV (zPt s p t 0) lk0 cs)
def zS1 (P : Pl) (s : St) (p t : Nat) : St := setH s (zLl P s p t).2
def zS2 (P : Pl) (s : St) (p t : Nat) : St := setH s (zLr P (zS1 P s p t) p t).2
def zMu (P : Pl) (s : St) (p t : Nat) : Nat := (zLl P s p t).1 + (zLr P (zS1 P s p t) p t).1
/-- one shrugs -/
def zSh (P : Pl) (s : St) (p t : Nat) : St := (zD s, zH (zS2 P s p t), zA s, up (zT s) p (zTi P (zS2 P s p t) p t), zK s, keep (zE s) (zD s, p, t, zMu P s p t))
/-- one is asked: what then is, how much is lifted -/
def zAs (P : Pl) (sil : Nat) (s : St) (p t : Nat) : St := if zWo P sil s p t = 2 then zSh P s p t else s
def zAm (P : Pl) (sil : Nat) (s : St) (p t : Nat) : Nat := if zWo P sil s p t = 2 then zMu P s p t else 0
def nxt (s : St) : St := (zD s + 1, s.2)
def zDy (P : Pl) (sil : Nat) (s : St) : St := match (plL P)[zD s % (plL P).length]? with
  | none => nxt s
  | some q => nxt (zAs P sil s q.1 q.2)
def zDc (P : Pl) (sil : Nat) (s : St) : Nat := match (plL P)[zD s % (plL P).length]? with
  | none => 0
  | some q => if zWo P sil s q.1 q.2 = 2 then 1 else 0
def zDs (P : Pl) (sil : Nat) : Nat → St → St
  | 0, s => s
  | n + 1, s => zDs P sil n (zDy P sil s)
def zDn (P : Pl) (sil : Nat) : Nat → St → Nat
  | 0, _ => 0
  | n + 1, s => zDc P sil s + zDn P sil n (zDy P sil s)
/-! what is always so -/
def cdOK (al : Nat → Bool) (t : Bool) (o : Option (List Nat)) : Prop := ∀ cs, o = some cs → tyL al cs [] = some [t] ∧ cs.length ≤ 1600
def plOK (P : Pl) : Prop := (3 ≤ plC P ∧ plC P ≤ 7) ∧ (3 ≤ plR P ∧ plR P ≤ 7) ∧ plW P ≤ 100 ∧ nT P ≤ 5 ∧ nP P ≤ 7 ∧ (plL P).length ≤ 12 ∧ (∀ q ∈ plL P, q.1 < nP P ∧ q.2 < nT P) ∧ cdOK al1 false (plF P) ∧ cdOK al0 false (plG P) ∧ cdOK al0 true (plH P)
def stOK (P : Pl) (s : St) : Prop := zD s ≤ 5000 ∧ (∀ c, isC P c → zH s c ≤ 99) ∧ (∀ p, p < nP P → isC P (zA s p) ∧ zT s p ≤ 9 ∧ zK s p < 2 ^ nT P) ∧ (zE s).length ≤ 40
