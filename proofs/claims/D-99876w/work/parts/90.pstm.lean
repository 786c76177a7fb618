/-! THE SPECIFICATION of a plain told: statements -/
/-- what is told so far: the plain; heights, places, tiredness, knowledge -/
abbrev Dr : Type := Pl × (Nat → Nat) × (Nat → Nat) × (Nat → Nat) × (Nat → Nat)
def dH (D : Dr) : Nat → Nat := D.2.1
def dA (D : Dr) : Nat → Nat := D.2.2.1
def dT (D : Dr) : Nat → Nat := D.2.2.2.1
def dK (D : Dr) : Nat → Nat := D.2.2.2.2
def addT (P : Pl) (w : List Nat) : Pl := (P.1, (plT P ++ [w], plN P, plL P), P.2.2)
def addN (P : Pl) (w : List Nat) : Pl := (P.1, (plT P, plN P ++ [w], plL P), P.2.2)
def addL (P : Pl) (q : Nat × Nat) : Pl := (P.1, (plT P, plN P, plL P ++ [q]), P.2.2)
def setW (P : Pl) (v : Nat) : Pl := ((plC P, plR P, v), P.2)
def cdO (P : Pl) (i : Nat) : Option (List Nat) := if i = 0 then plF P else if i = 1 then plG P else plH P
def setC (P : Pl) (i : Nat) (cs : List Nat) : Pl := (P.1, P.2.1, if i = 0 then (some cs, plG P, plH P) else if i = 1 then (plF P, some cs, plH P) else (plF P, plG P, some cs))
def pCell (P : Pl) (t : Nat → Nat) (e a : Nat) : PR (Nat × Nat) := pB (pNum 0 (plC P - 1) t e a) (fun x b => pB (pNum 0 (plR P - 1) t e b) (fun y b2 => .inl ((8 * y.1 + x.1, y.2), b2)))
def pNew (P : Pl) (t : Nat → Nat) (e a : Nat) : PR (List Nat) := pB (pName t e a) (fun q b => if q.1 ∈ plT P ∨ q.1 ∈ plN P then .inr (3, q.2) else .inl (q.1, b))
def ixOf (l : List (List Nat)) (w : List Nat) : Nat := l.findIdx (fun x => decide (x = w))
def pOf (l : List (List Nat)) (t : Nat → Nat) (e a : Nat) : PR (Nat × Nat) := pB (pName t e a) (fun q b => if ixOf l q.1 < l.length then .inl ((ixOf l q.1, q.2), b) else .inr (3, q.2))
def pFin (D : Dr) (t : Nat → Nat) (e a : Nat) : PR Dr := pB (pSign 59 t e a) (fun _ b => .inl (D, b))
def pHigh (D : Dr) (t : Nat → Nat) (e a : Nat) : PR Dr := pB (pCell D.1 t e a) (fun q b => pB (pNum 0 99 t e b) (fun v b2 => pFin (D.1, up (dH D) q.1 v.1, D.2.2) t e b2))
def pTopic (D : Dr) (pl : Nat) (t : Nat → Nat) (e a : Nat) : PR Dr := if nT D.1 = 5 then .inr (5, pl) else pB (pNew D.1 t e a) (fun w b => pFin (addT D.1 w, D.2) t e b)
def tkn (D : Dr) (c : Nat) : Bool := (List.range (nP D.1)).any (fun p => decide (dA D p = c))
def pPers (D : Dr) (pl : Nat) (t : Nat → Nat) (e a : Nat) : PR Dr := if nP D.1 = 7 then .inr (5, pl) else
  pB (pNew D.1 t e a) (fun w b => pB (pExp (str 16) t e b) (fun _ b2 => pB (pCell D.1 t e b2) (fun q b3 => if tkn D q.1 = true then .inr (2, q.2) else
    pB (pExp (str 17) t e b3) (fun _ b4 => pB (pNum 0 9 t e b4) (fun v b5 => pFin (addN D.1 w, dH D, up (dA D) (nP D.1) q.1, up (dT D) (nP D.1) v.1, up (dK D) (nP D.1) 0) t e b5)))))
def pKnow (D : Dr) (t : Nat → Nat) (e a : Nat) : PR Dr := pB (pOf (plN D.1) t e a) (fun p b => pB (pExp (str 19) t e b) (fun _ b2 => pB (pOf (plT D.1) t e b2) (fun k b3 => if dK D p.1 / 2 ^ k.1 % 2 = 1 then .inr (3, k.2) else pFin (D.1, dH D, dA D, dT D, up (dK D) p.1 (dK D p.1 ||| 2 ^ k.1)) t e b3)))
def pList (D : Dr) (pl : Nat) (t : Nat → Nat) (e a : Nat) : PR Dr := if (plL D.1).length = 12 then .inr (5, pl) else pB (pOf (plN D.1) t e a) (fun p b => pB (pExp (str 19) t e b) (fun _ b2 => pB (pOf (plT D.1) t e b2) (fun k b3 => pFin (addL D.1 (p.1, k.1), D.2) t e b3)))
def pCds (i : Nat) (t : Nat → Nat) (e a : Nat) : PR (List Nat) := if i = 2 then pTest (pFact (alK 0) t e 6) t e a else pSum (pAtom (alK (if i = 0 then 1 else 0)) t e 6) t e a
def pCode (D : Dr) (i pl : Nat) (t : Nat → Nat) (e a : Nat) : PR Dr := if (cdO D.1 i).isSome = true then .inr (5, pl) else pB (pCds i t e a) (fun cs b => pFin (setC D.1 i cs, D.2) t e b)
def pCrowd (D : Dr) (t : Nat → Nat) (e a : Nat) : PR Dr := pB (pExp (str 24) t e a) (fun _ b => pB (pNum 0 100 t e b) (fun v b2 => pFin (setW D.1 v.1, D.2) t e b2))
/-- the n-th statement, at the place a -/
def pStm (n : Nat) (D : Dr) (t : Nat → Nat) (e a : Nat) : PR Dr :=
  if n = 80 then .inr (5, a) else if isW (str 13) t e a = true then pHigh D t e (wE t e a)
  else if isW (str 14) t e a = true then pTopic D a t e (wE t e a) else if isW (str 15) t e a = true then pPers D a t e (wE t e a)
  else if isW (str 18) t e a = true then pKnow D t e (wE t e a) else if isW (str 20) t e a = true then pList D a t e (wE t e a)
  else if isW (str 21) t e a = true then pCode D 0 a t e (wE t e a) else if isW (str 22) t e a = true then pCode D 1 a t e (wE t e a)
  else if isW (str 23) t e a = true then pCode D 2 a t e (wE t e a) else pCrowd D t e a
def pStms (t : Nat → Nat) (e : Nat) : Nat → Nat → Dr → Nat → PR (Dr × Nat)
  | 0, n, D, a => .inl ((D, n), lk t e a)
  | f + 1, n, D, a => if lk t e a < e then pB (pStm n D t e (lk t e a)) (fun D' b => pStms t e f (n + 1) D' b) else .inl ((D, n), lk t e a)
def pHead (t : Nat → Nat) (e : Nat) : PR (Nat × Nat) := pB (pExp (str 11) t e 0) (fun _ b => pB (pNum 3 7 t e b) (fun c b2 => pB (pExp (str 12) t e b2) (fun _ b3 => pB (pNum 3 7 t e b3) (fun r b4 => pB (pSign 59 t e b4) (fun _ b5 => .inl ((c.1, r.1), b5))))))
def D0 (c r : Nat) : Dr := (((c, r, 0), ([], [], []), (none, none, none)), (fun _ => 50), (fun _ => 0), (fun _ => 0), fun _ => 0)
def pPlain (t : Nat → Nat) (e : Nat) : PR (Dr × Nat) := pB (pHead t e) (fun q b => pStms t e (e + 1 - b) 1 (D0 q.1 q.2) b)
def opPlain (Z : Wd) : Int32 × Wd := match pPlain (wTp Z) (wTn Z) with
  | .inl q => (nI q.1.2, ((wTp Z, 0), (nI 0, M1), wRf Z, q.1.1.1, (0, dH q.1.1, dA q.1.1, dT q.1.1, dK q.1.1, []), [], [], wD Z, wO Z))
  | .inr q => (M1, putRf ((wTp Z, 0), (nI q.1, nI q.2), Z.2.2) 1)
/-! what is told is well -/
def stD (D : Dr) : St := (0, dH D, dA D, dT D, dK D, [])
def drOK (D : Dr) : Prop := plOK D.1 ∧ stOK D.1 (stD D) ∧ ∀ w, w ∈ plT D.1 ∨ w ∈ plN D.1 → nmOK w
/-! codes are typed -/
def tyd (al : Nat → Bool) (b : Bool) (AT : Nat → PR (List Nat)) : Prop := ∀ a cs b', AT a = .inl (cs, b') → ∀ k, tyL al cs k = some (b :: k)
theorem ty_n {al : Nat → Bool} {c : Nat} (h : 1 ≤ c ∧ c ≤ 6) (k : List Bool) : tyL al [c] (false :: false :: k) = some (false :: k) := by
  have : c = 1 ∨ c = 2 ∨ c = 3 ∨ c = 4 ∨ c = 5 ∨ c = 6 := by omega
  rcases this with rfl | rfl | rfl | rfl | rfl | rfl <;> rfl
theorem ty_c {al : Nat → Bool} {c : Nat} (h : 7 ≤ c ∧ c ≤ 9) (k : List Bool) : tyL al [c] (false :: false :: k) = some (true :: k) := by
  have : c = 7 ∨ c = 8 ∨ c = 9 := by omega
  rcases this with rfl | rfl | rfl <;> rfl
theorem ty_b {al : Nat → Bool} {c : Nat} (h : c = 10 ∨ c = 11) (k : List Bool) : tyL al [c] (true :: true :: k) = some (true :: k) := by
  rcases h with rfl | rfl <;> rfl
theorem ty3 {al : Nat → Bool} {x y z : Bool} {cs ds : List Nat} {o : Nat} (h1 : ∀ k, tyL al cs k = some (x :: k)) (h2 : ∀ k, tyL al ds k = some (y :: k)) (h3 : ∀ k, tyL al [o] (y :: x :: k) = some (z :: k)) (k : List Bool) : tyL al (cs ++ ds ++ [o]) k = some (z :: k) := by
  rw [tyL_app, tyL_app, h1]
  show (tyL al ds (x :: k)).bind _ = _
  rw [h2]
  exact h3 k
theorem opM_r {c : Nat} (h : ¬ opM c = 0) : 1 ≤ opM c ∧ opM c ≤ 6 := by
  unfold opM at h ⊢
  split
  · decide
  · split
    · decide
    · rename_i a b; rw [if_neg a, if_neg b] at h; exact absurd rfl h
theorem opA_r {c : Nat} (h : ¬ opA c = 0) : 1 ≤ opA c ∧ opA c ≤ 6 := by
  unfold opA at h ⊢
  split
  · decide
  · split
    · decide
    · rename_i a b; rw [if_neg a, if_neg b] at h; exact absurd rfl h
theorem opC_r {c : Nat} (h : ¬ opC c = 0) : 7 ≤ opC c ∧ opC c ≤ 9 := by
  unfold opC at h ⊢
  split
  · decide
  · split
    · decide
    · split
      · decide
      · rename_i a b d; rw [if_neg a, if_neg b, if_neg d] at h; exact absurd rfl h
theorem ty_chL {al : Nat → Bool} {t : Nat → Nat} {e : Nat} {AT : Nat → PR (List Nat)} {ops : Nat → Nat} (ho : ∀ c, ¬ ops c = 0 → 1 ≤ ops c ∧ ops c ≤ 6) (hA : tyd al false AT) : ∀ (f : Nat) (cs : List Nat) (a : Nat) (ds : List Nat) (b : Nat), (∀ k, tyL al cs k = some (false :: k)) → chL AT ops t e f cs a = .inl (ds, b) → ∀ k, tyL al ds k = some (false :: k)
  | 0, cs, a, ds, b, hc, h => by cases h; exact hc
  | f + 1, cs, a, ds, b, hc, h => by
    unfold chL at h
    split at h
    · cases h; exact hc
    · rename_i hz
      obtain ⟨x, b1, h1, h2⟩ := pB_ok h
      exact ty_chL ho hA f _ _ _ _ (ty3 hc (hA _ _ _ h1) (ty_n (ho _ hz))) h2
theorem ty_prod {al : Nat → Bool} {t : Nat → Nat} {e : Nat} {AT : Nat → PR (List Nat)} (hA : tyd al false AT) : tyd al false (pProd AT t e) := by
  intro a cs b h
  obtain ⟨x, b1, h1, h2⟩ := pB_ok h
  exact ty_chL (fun c => opM_r) hA _ _ _ _ _ (hA _ _ _ h1) h2
theorem ty_sum {al : Nat → Bool} {t : Nat → Nat} {e : Nat} {AT : Nat → PR (List Nat)} (hA : tyd al false AT) : tyd al false (pSum AT t e) := by
  intro a cs b h
  obtain ⟨x, b1, h1, h2⟩ := pB_ok h
  exact ty_chL (fun c => opA_r) (ty_prod hA) _ _ _ _ _ (ty_prod hA _ _ _ h1) h2
theorem ty_atomG {al : Nat → Bool} {t : Nat → Nat} {e : Nat} {rec : Option (Nat → PR (List Nat))} (hr : ∀ AT, rec = some AT → tyd al false AT) : tyd al false (pAtomG al rec t e) := by
  intro a cs b h
  unfold pAtomG at h
  split at h
  · cases rec with
    | none => cases h
    | some AT =>
      obtain ⟨x, b1, h1, h2⟩ := pB_ok h
      obtain ⟨_, b2, h3, h4⟩ := pB_ok h2
      cases h4
      exact ty_sum (hr AT rfl) _ _ _ h1
  · split at h
    · obtain ⟨x, b1, h1, h2⟩ := pB_ok h
      have hv : x.1 ≤ 9999 := by
        unfold pNum at h1
        split at h1
        · split at h1
          · cases h1
          · split at h1
            · rename_i z; cases h1; exact z.2
            · cases h1
        · cases h1
      cases h2
      intro k
      simp only [tyL]
      unfold tyS
      rw [if_pos (by omega), if_pos (by omega)]; rfl
    · obtain ⟨x, b1, h1, h2⟩ := pB_ok h
      split at h2
      · rename_i z
        cases h2
        intro k
        simp only [tyL]
        unfold tyS
        rw [if_neg (by omega), if_neg (by omega), if_pos (by omega), if_pos ⟨by omega, by rw [show 40 + wIx x.1 - 40 = wIx x.1 by omega]; exact z.2⟩]; rfl
      · split at h2
        · rename_i z
          cases rec with
          | none => cases h2
          | some AT =>
            obtain ⟨y, b2, h3, h4⟩ := pB_ok h2
            cases h4
            intro k
            rw [tyL_app, hr AT rfl _ _ _ h3]
            show (tyS al (51 + wIx x.1) (false :: k)).bind _ = _
            unfold tyS
            rw [if_neg (by omega), if_pos (by omega), if_pos ⟨by omega, by rw [show 51 + wIx x.1 - 51 = wIx x.1 by omega]; exact z.2.2⟩]; rfl
        · split at h2
          · split at h2
            · cases rec with
              | none => cases h2
              | some AT =>
                obtain ⟨y, b2, h3, h4⟩ := pB_ok h2
                obtain ⟨_, b3, h5, h6⟩ := pB_ok h4
                obtain ⟨y3, b4, h7, h8⟩ := pB_ok h6
                obtain ⟨_, b5, h9, h10⟩ := pB_ok h8
                cases h10
                exact ty3 (ty_sum (hr AT rfl) _ _ _ h3) (ty_sum (hr AT rfl) _ _ _ h7) (ty_n (by split <;> decide))
            · cases h2
          · cases h2
theorem ty_atom (al : Nat → Bool) (t : Nat → Nat) (e : Nat) : ∀ r, tyd al false (pAtom al t e r)
  | 0 => ty_atomG (fun _ h => by cases h)
  | r + 1 => ty_atomG (fun AT h => by cases h; exact ty_atom al t e r)
theorem ty_lpL {al : Nat → Bool} {t : Nat → Nat} {e : Nat} {F : Nat → PR (List Nat)} {w : List Nat} {o : Nat} (ho : o = 10 ∨ o = 11) (hA : tyd al true F) : ∀ (f : Nat) (cs : List Nat) (a : Nat) (ds : List Nat) (b : Nat), (∀ k, tyL al cs k = some (true :: k)) → lpL F w o t e f cs a = .inl (ds, b) → ∀ k, tyL al ds k = some (true :: k)
  | 0, cs, a, ds, b, hc, h => by cases h; exact hc
  | f + 1, cs, a, ds, b, hc, h => by
    unfold lpL at h
    split at h
    · obtain ⟨x, b1, h1, h2⟩ := pB_ok h
      exact ty_lpL ho hA f _ _ _ _ (ty3 hc (hA _ _ _ h1) (ty_b ho)) h2
    · cases h; exact hc
theorem ty_both {al : Nat → Bool} {t : Nat → Nat} {e : Nat} {F : Nat → PR (List Nat)} (hA : tyd al true F) : tyd al true (pBoth F t e) := by
  intro a cs b h
  obtain ⟨x, b1, h1, h2⟩ := pB_ok h
  exact ty_lpL (Or.inl rfl) hA _ _ _ _ _ (hA _ _ _ h1) h2
theorem ty_test {al : Nat → Bool} {t : Nat → Nat} {e : Nat} {F : Nat → PR (List Nat)} (hA : tyd al true F) : tyd al true (pTest F t e) := by
  intro a cs b h
  obtain ⟨x, b1, h1, h2⟩ := pB_ok h
  exact ty_lpL (Or.inr rfl) (ty_both hA) _ _ _ _ _ (ty_both hA _ _ _ h1) h2
theorem ty_factG {al : Nat → Bool} {t : Nat → Nat} {e : Nat} {AT : Nat → PR (List Nat)} {rec : Option (Nat → PR (List Nat))} (hA : tyd al false AT) (hr : ∀ F, rec = some F → tyd al true F) : tyd al true (pFactG AT rec t e) := by
  intro a cs b h
  by_cases h91 : bt t e (lk t e a) = 91
  · cases rec with
    | none => rw [pFa_sqN h91] at h; cases h
    | some F =>
      rw [pFa_sqS h91] at h
      obtain ⟨x, b1, h1, h2⟩ := pB_ok h
      obtain ⟨_, b2, h3, h4⟩ := pB_ok h2
      cases h4
      exact ty_test (hr F rfl) _ _ _ h1
  · by_cases h85 : hereW t e (lk t e a) (str 85)
    · cases rec with
      | none => rw [pFa_noN h85] at h; cases h
      | some F =>
        rw [pFa_noS h85] at h
        obtain ⟨x, b1, h1, h2⟩ := pB_ok h
        cases h2
        intro k
        rw [tyL_app, hr F rfl _ _ _ h1]; rfl
    · by_cases h88 : hereW t e (lk t e a) (str 88)
      · rw [pFa_88 h85 h88] at h
        cases h
        intro k; rfl
      · rw [pFa_sum h91 h85 h88] at h
        obtain ⟨x, b1, h1, h2⟩ := pB_ok h
        split at h2
        · cases h2
        · rename_i hz
          obtain ⟨y, b2, h3, h4⟩ := pB_ok h2
          cases h4
          exact ty3 (ty_sum hA _ _ _ h1) (ty_sum hA _ _ _ h3) (ty_c (opC_r hz))
theorem ty_fact (al : Nat → Bool) (t : Nat → Nat) (e : Nat) : ∀ r, tyd al true (pFact al t e r)
  | 0 => ty_factG (ty_atom _ _ _ _) (fun _ h => by cases h)
  | r + 1 => ty_factG (ty_atom _ _ _ _) (fun F h => by cases h; exact ty_fact al t e r)
