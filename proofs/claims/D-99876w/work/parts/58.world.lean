/-! THE WORLD of the specification, and the calls on it (all but those that read text) -/
/-- tape and how much; fault and its place; refusals; the plain; the state; what was seen (day, cell, height); what may be undone (newest first); seed; image -/
abbrev Wd : Type := ((Nat → Nat) × Nat) × (Int32 × Int32) × (Nat → Int32) × Pl × St × List (Nat × Nat × Nat) × List St × Int64 × List Nat
def wTp (Z : Wd) : Nat → Nat := Z.1.1
def wTn (Z : Wd) : Nat := Z.1.2
def wF (Z : Wd) : Int32 × Int32 := Z.2.1
def wRf (Z : Wd) : Nat → Int32 := Z.2.2.1
def wP (Z : Wd) : Pl := Z.2.2.2.1
def wS (Z : Wd) : St := Z.2.2.2.2.1
def wR (Z : Wd) : List (Nat × Nat × Nat) := Z.2.2.2.2.2.1
def wU (Z : Wd) : List St := Z.2.2.2.2.2.2.1
def wD (Z : Wd) : Int64 := Z.2.2.2.2.2.2.2.1
def wO (Z : Wd) : List Nat := Z.2.2.2.2.2.2.2.2
def P0 : Pl := ((0, 0, 0), ([], [], []), (none, none, none))
def putRf (Z : Wd) (k : Nat) : Wd := (Z.1, Z.2.1, (fun i => if i = k then wRf Z i + 1 else wRf Z i), Z.2.2.2)
def putS (Z : Wd) (s : St) : Wd := (Z.1, Z.2.1, Z.2.2.1, wP Z, s, Z.2.2.2.2.2)
def putU (Z : Wd) (u : List St) : Wd := (Z.1, Z.2.1, Z.2.2.1, wP Z, wS Z, wR Z, u, Z.2.2.2.2.2.2.2)
def putD (Z : Wd) (d : Int64) : Wd := (Z.1, Z.2.1, Z.2.2.1, wP Z, wS Z, wR Z, wU Z, d, wO Z)
def putO (Z : Wd) (o : List Nat) : Wd := (Z.1, Z.2.1, Z.2.2.1, wP Z, wS Z, wR Z, wU Z, wD Z, o)
def putR (Z : Wd) (r : List (Nat × Nat × Nat)) : Wd := (Z.1, Z.2.1, Z.2.2.1, wP Z, wS Z, r, Z.2.2.2.2.2.2)
def putT (Z : Wd) (t : Nat → Nat) (n : Nat) : Wd := ((t, n), Z.2)
/-- an act is remembered -/
def remb (Z : Wd) : Wd := putU Z ((wS Z :: wU Z).take 20)
def nmOK (w : List Nat) : Prop := 1 ≤ w.length ∧ w.length ≤ 6 ∧ ∀ c ∈ w, 97 ≤ c ∧ c ≤ 122
def woOK (Z : Wd) : Prop := (plOK (wP Z) ∨ wP Z = P0) ∧ stOK (wP Z) (wS Z) ∧ zD (wS Z) ≤ 999 ∧ wTn Z ≤ 1600 ∧ (∀ i, wTp Z i < 256) ∧ (wR Z).length ≤ 16 ∧ (∀ q ∈ wR Z, q.1 ≤ 30 ∧ isC (wP Z) q.2.1 ∧ q.2.2 ≤ 99) ∧ (wU Z).length ≤ 20 ∧ (∀ s ∈ wU Z, stOK (wP Z) s ∧ zD s ≤ 999) ∧ (wO Z).length ≤ 80 ∧ (∀ b ∈ wO Z, b < 256) ∧ (∀ w, w ∈ plT (wP Z) ∨ w ∈ plN (wP Z) → nmOK w)
def cellS (P : Pl) (x y : Int32) : Option Nat := match ix x (plC P), ix y (plR P) with
  | some c, some r => some (8 * r + c)
  | _, _ => none
def cellN (P : Pl) (v : Int32) : Option Nat := match ix v 64 with
  | some c => if c % 8 < plC P ∧ c / 8 < plR P then some c else none
  | none => none
def ahd (P : Pl) (s : St) (x : Int32) (lo hi : Nat) : Option Nat := match ix x (hi + 1) with
  | some j => if 0 < plC P ∧ lo ≤ j ∧ zD s + j ≤ 999 then some j else none
  | none => none
def opHas (Z : Wd) (x : Int32) : Int32 :=
  if x = 0 then nI (plC (wP Z)) else if x = 1 then nI (plR (wP Z)) else if x = 2 then nI (nT (wP Z)) else if x = 3 then nI (nP (wP Z)) else if x = 4 then nI (plL (wP Z)).length else if x = 5 then nI (zD (wS Z))
  else if x = 6 then nI ((cls (wP Z)).foldl (fun a c => a + zH (wS Z) c) 0) else if x = 7 then nI (zE (wS Z)).length else if x = 8 then nI (wR Z).length else if x = 9 then nI (wU Z).length else M1
def opLetter (Z : Wd) (x y k : Int32) : Int32 := match ix x 2, ix k 6 with
  | some a, some j => match ix y (if a = 0 then nT (wP Z) else nP (wP Z)) with
    | some i => match (if a = 0 then plT (wP Z) else plN (wP Z))[i]? with
      | some w => match w[j]? with
        | some c => nI (c - 96)
        | none => nI 0
      | none => M1
    | none => M1
  | _, _ => M1
def opHeight (Z : Wd) (x y : Int32) : Int32 := match cellS (wP Z) x y with
  | some c => nI (zH (wS Z) c)
  | none => M1
def opPerson (Z : Wd) (x y : Int32) : Int32 := match ix x (nP (wP Z)) with
  | some p => if y = 0 then nI (zA (wS Z) p % 8) else if y = 1 then nI (zA (wS Z) p / 8) else if y = 2 then nI (zT (wS Z) p) else if y = 3 then nI (zK (wS Z) p) else M1
  | none => M1
def opList (Z : Wd) (x y : Int32) : Int32 := match ix x (plL (wP Z)).length with
  | some k => match (plL (wP Z))[k]? with
    | some q => if y = 0 then nI q.1 else if y = 1 then nI q.2 else M1
    | none => M1
  | none => M1
def opWould (Z : Wd) (x y : Int32) : Int32 := match ix x (nP (wP Z)), ix y (nT (wP Z)) with
  | some p, some t => nI (zWo (wP Z) 0 (wS Z) p t)
  | _, _ => M1
def opKept (Z : Wd) (x y : Int32) : Int32 := match ix x (zE (wS Z)).length with
  | some k => match (zE (wS Z))[k]? with
    | some r => if y = 0 then nI r.1 else if y = 1 then nI r.2.1 else if y = 2 then nI r.2.2.1 else if y = 3 then nI r.2.2.2 else M1
    | none => M1
  | none => M1
def opLater (Z : Wd) (x y n : Int32) : Int32 := match cellS (wP Z) x y, ahd (wP Z) (wS Z) n 0 60 with
  | some c, some j => nI (zH (zDs (wP Z) 0 j (wS Z)) c)
  | _, _ => M1
def opTired (Z : Wd) (x n : Int32) : Int32 := match ix x (nP (wP Z)), ahd (wP Z) (wS Z) n 0 60 with
  | some p, some j => nI (zT (zDs (wP Z) 0 j (wS Z)) p)
  | _, _ => M1
/-- the first day on which a cell is so high: j days more may come -/
def risS (P : Pl) (c : Nat) (h : Int32) : Nat → Nat → St → Int32
  | 0, n, s => if h ≤ nI (zH s c) then nI n else M1
  | j + 1, n, s => if h ≤ nI (zH s c) then nI n else risS P c h j (n + 1) (zDy P 0 s)
def opRises (Z : Wd) (x y h : Int32) : Int32 := match cellS (wP Z) x y with
  | some c => risS (wP Z) c h (min 60 (999 - zD (wS Z))) 0 (wS Z)
  | none => M1
def opFault (Z : Wd) (x : Int32) : Int32 := if x = 0 then (wF Z).1 else if x = 1 then (wF Z).2 else M1
def opStatus (Z : Wd) (x : Int32) : Int32 := match ix x 6 with
  | some k => wRf Z k
  | none => M1
def opOctet (Z : Wd) (x : Int32) : Int32 := match ix x (wO Z).length with
  | some k => match (wO Z)[k]? with
    | some b => nI b
    | none => M1
  | none => M1
def opUndo (Z : Wd) : Int32 × Wd := match wU Z with
  | [] => (nI 0, putRf Z 4)
  | s :: u => (nI 1, putU (putS Z s) u)
def opAsks (Z : Wd) (x y : Int32) : Int32 × Wd := match ix x (nP (wP Z)), ix y (nT (wP Z)) with
  | some p, some t => (nI (zWo (wP Z) 0 (wS Z) p t), putS (remb Z) (zAs (wP Z) 0 (wS Z) p t))
  | _, _ => (M1, putRf Z 2)
def opTeach (Z : Wd) (x y o : Int32) : Int32 × Wd := match ix x (nP (wP Z)), ix y (nT (wP Z)), ix o 2 with
  | some p, some t, some b => if zK (wS Z) p / 2 ^ t % 2 = b then (nI 0, putRf Z 2) else (nI 1, putS (remb Z) (zD (wS Z), zH (wS Z), zA (wS Z), zT (wS Z), up (zK (wS Z)) p (zK (wS Z) p ^^^ 2 ^ t), zE (wS Z)))
  | _, _, _ => (nI 0, putRf Z 2)
def freeS (P : Pl) (s : St) (c : Nat) : Bool := (List.range (nP P)).all (fun p => zA s p != c)
def opGo (Z : Wd) (x y r : Int32) : Int32 × Wd := match ix x (nP (wP Z)), cellS (wP Z) y r with
  | some p, some c => if freeS (wP Z) (wS Z) c = true then (nI 1, putS (remb Z) (zD (wS Z), zH (wS Z), up (zA (wS Z)) p c, zT (wS Z), zK (wS Z), zE (wS Z))) else (nI 0, putRf Z 2)
  | _, _ => (nI 0, putRf Z 2)
def opEase (Z : Wd) (x : Int32) : Int32 × Wd := match ix x (nP (wP Z)) with
  | some p => if zT (wS Z) p = 0 then (nI 0, putRf Z 2) else (nI 1, putS (remb Z) (zD (wS Z), zH (wS Z), zA (wS Z), up (zT (wS Z)) p 0, zK (wS Z), zE (wS Z)))
  | none => (nI 0, putRf Z 2)
def opDays (Z : Wd) (n : Int32) : Int32 × Wd := match ahd (wP Z) (wS Z) n 1 100 with
  | some j => (nI (zDn (wP Z) 0 j (wS Z)), putS (remb Z) (zDs (wP Z) 0 j (wS Z)))
  | none => (M1, putRf Z 3)
def drw (d : Int64) : Int64 := (1103515245 * d + 12345) - (1103515245 * d + 12345) / 2147483648 * 2147483648
def drawn (d : Int64) (m : Nat) : Nat := (d.toInt.toNat / 64) % m
/-- days with a crowd: how many days are left, shrugs so far, the seed -/
def chS (P : Pl) : Nat → Nat → Int64 → St → Nat × Int64 × St
  | 0, a, d, s => (a, d, s)
  | j + 1, a, d, s =>
    if drawn (drw d) 100 < plW P ∧ 0 < nP P ∧ 0 < nT P then
      chS P j (a + if zWo P 0 s (drawn (drw (drw d)) (nP P)) (drawn (drw (drw (drw d))) (nT P)) = 2 then 1 else 0) (drw (drw (drw d))) (zDy P 0 (zAs P 0 s (drawn (drw (drw d)) (nP P)) (drawn (drw (drw (drw d))) (nT P))))
    else chS P j a (drw d) (zDy P 0 s)
def opChance (Z : Wd) (n : Int32) : Int32 × Wd := match ahd (wP Z) (wS Z) n 1 100 with
  | some j => (nI (chS (wP Z) j 0 (wD Z) (wS Z)).1, putD (putS (remb Z) (chS (wP Z) j 0 (wD Z) (wS Z)).2.2) (chS (wP Z) j 0 (wD Z) (wS Z)).2.1)
  | none => (M1, putRf Z 3)
def opSeed (Z : Wd) (x : Int32) : Int32 × Wd := if x < 0 then (nI 0, putRf Z 5) else (nI 1, putD Z x.toInt64)
def byS (a b c d e : Int32) (k : Nat) : Nat := (((if k < 4 then a else if k < 8 then b else if k < 12 then c else if k < 16 then d else e).toBitVec.toNat) / 2 ^ (8 * (3 - k % 4))) % 256
def opFeed (Z : Wd) (a b c d e : Int32) : Int32 × Wd := if 1600 < wTn Z + 20 then (M1, putRf Z 0) else (nI (wTn Z + 20), putT Z (fun i => if wTn Z ≤ i ∧ i < wTn Z + 20 then byS a b c d e (i - wTn Z) else wTp Z i) (wTn Z + 20))
def opEnd (Z : Wd) (n : Int32) : Int32 × Wd := match ix n (wTn Z + 1) with
  | some j => (nI 1, putT Z (wTp Z) j)
  | none => (nI 0, putRf Z 0)
