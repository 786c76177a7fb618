/-! PURE: neighbours, water, ways -/
def nb4 (P : Pl) (c d : Nat) : Option Nat :=
  if d = 0 then (if 0 < c / 8 then some (c - 8) else none) else if d = 1 then (if 0 < c % 8 then some (c - 1) else none)
  else if d = 2 then (if c % 8 + 1 < plC P then some (c + 1) else none) else (if c / 8 + 1 < plR P then some (c + 8) else none)
theorem nb4_ok {P : Pl} (hP : plOK P) {c d e : Nat} (hc : isC P c) (h : nb4 P c d = some e) : isC P e := by
  have hl := isC_lt hP hc
  have hC := hP.1; have hR := hP.2.1
  obtain ⟨h1, h2⟩ := hc
  unfold nb4 at h
  split at h
  · split at h
    · cases h; constructor <;> omega
    · cases h
  · split at h
    · split at h
      · cases h; constructor <;> omega
      · cases h
    · split at h
      · split at h
        · cases h; constructor <;> omega
        · cases h
      · split at h
        · cases h; constructor <;> omega
        · cases h
def zLow (P : Pl) (h : Nat → Nat) (c : Nat) : Nat := ([0, 1, 2, 3] : List Nat).foldl (fun b d => match nb4 P c d with | none => b | some e => if h e < h b then e else b) c
def pondF (P : Pl) (h : Nat → Nat) : Nat → Nat → Nat
  | 0, c => c
  | f + 1, c => if zLow P h c = c then c else pondF P h f (zLow P h c)
def opPond (Z : Wd) (x y : Int32) : Int32 := match cellS (wP Z) x y with
  | some c => nI (pondF (wP Z) (zH (wS Z)) 100 c)
  | none => M1
theorem low_fold {P : Pl} (hP : plOK P) {h : Nat → Nat} {c : Nat} (hc : isC P c) : ∀ (l : List Nat) (b : Nat), isC P b → isC P (l.foldl (fun b d => match nb4 P c d with | none => b | some e => if h e < h b then e else b) b) ∧ (l.foldl (fun b d => match nb4 P c d with | none => b | some e => if h e < h b then e else b) b = b ∨ h (l.foldl (fun b d => match nb4 P c d with | none => b | some e => if h e < h b then e else b) b) < h b)
  | [], b, hb => ⟨hb, Or.inl rfl⟩
  | d :: l, b, hb => by
    rw [List.foldl_cons]
    cases hn : nb4 P c d with
    | none => exact low_fold hP hc l b hb
    | some e =>
      simp only []
      by_cases z : h e < h b
      · rw [if_pos z]
        obtain ⟨a1, a2⟩ := low_fold hP (h := h) hc l e (nb4_ok hP hc hn)
        refine ⟨a1, Or.inr ?_⟩
        rcases a2 with a2 | a2
        · rw [a2]; exact z
        · omega
      · rw [if_neg z]
        exact low_fold hP hc l b hb
theorem zLow_ok {P : Pl} (hP : plOK P) {h : Nat → Nat} {c : Nat} (hc : isC P c) : isC P (zLow P h c) ∧ (zLow P h c = c ∨ h (zLow P h c) < h c) := low_fold hP hc _ c hc
def hd (h : Nat → Nat) (a b : Nat) : Nat := 1 + (if h a ≤ h b then h b - h a else h a - h b)
def adjC (P : Pl) (a b : Nat) : Prop := isC P a ∧ isC P b ∧ ∃ d, d < 4 ∧ nb4 P a d = some b
theorem adjC_sym {P : Pl} (hP : plOK P) {a b : Nat} (h : adjC P a b) : adjC P b a := by
  obtain ⟨ha, hb, d, hd, hn⟩ := h
  refine ⟨hb, ha, ?_⟩
  have h1 := isC_lt hP ha; have h2 := isC_lt hP hb
  have hC := hP.1; have hR := hP.2.1
  obtain ⟨a1, a2⟩ := ha
  obtain ⟨b1, b2⟩ := hb
  have hdd : d = 0 ∨ d = 1 ∨ d = 2 ∨ d = 3 := by omega
  rcases hdd with rfl | rfl | rfl | rfl
  · simp only [nb4, if_true] at hn
    split at hn
    · cases hn
      refine ⟨3, by decide, ?_⟩
      simp only [nb4]
      rw [if_neg (by decide), if_neg (by decide), if_neg (by decide), if_pos (by omega)]
      congr 1; omega
    · cases hn
  · simp only [nb4] at hn
    rw [if_neg (by decide), if_pos (by decide)] at hn
    split at hn
    · cases hn
      refine ⟨2, by decide, ?_⟩
      simp only [nb4]
      rw [if_neg (by decide), if_neg (by decide), if_pos (by decide), if_pos (by omega)]
      congr 1; omega
    · cases hn
  · simp only [nb4] at hn
    rw [if_neg (by decide), if_neg (by decide), if_pos (by decide)] at hn
    split at hn
    · cases hn
      refine ⟨1, by decide, ?_⟩
      simp only [nb4]
      rw [if_neg (by decide), if_pos (by decide), if_pos (by omega)]
      congr 1
    · cases hn
  · simp only [nb4] at hn
    rw [if_neg (by decide), if_neg (by decide), if_neg (by decide)] at hn
    split at hn
    · cases hn
      refine ⟨0, by decide, ?_⟩
      simp only [nb4]
      rw [if_pos (by decide), if_pos (by omega)]
      congr 1
    · cases hn
def Pth (P : Pl) (h : Nat → Nat) (a : Nat) : Nat → Nat → Nat → Prop
  | 0, b, v => b = a ∧ v = 0
  | n + 1, b, v => ∃ c u, Pth P h a n c u ∧ adjC P c b ∧ v = u + hd h c b
def IsW (P : Pl) (h : Nat → Nat) (a b v : Nat) : Prop := (∃ n, Pth P h a n b v) ∧ ∀ n u, Pth P h a n b u → v ≤ u
noncomputable def zWay (P : Pl) (h : Nat → Nat) (a b : Nat) : Nat := Classical.epsilon (fun v => IsW P h a b v)
theorem zWay_eq {P : Pl} {h : Nat → Nat} {a b v : Nat} (hv : IsW P h a b v) : zWay P h a b = v := by
  have he : IsW P h a b (zWay P h a b) := Classical.epsilon_spec (p := fun v => IsW P h a b v) ⟨v, hv⟩
  obtain ⟨⟨n, h1⟩, h2⟩ := he
  obtain ⟨⟨m, h3⟩, h4⟩ := hv
  have := h2 m v h3
  have := h4 n _ h1
  omega
/-- every cell can be reached -/
theorem Pth_ex {P : Pl} (hP : plOK P) (h : Nat → Nat) {a : Nat} (ha : isC P a) : ∀ (k : Nat) (b : Nat), isC P b → (if a % 8 ≤ b % 8 then b % 8 - a % 8 else a % 8 - b % 8) + (if a / 8 ≤ b / 8 then b / 8 - a / 8 else a / 8 - b / 8) = k → ∃ n u, Pth P h a n b u
  | 0, b, hb, hk => by
    have : b = a := by
      split at hk <;> split at hk <;> omega
    exact ⟨0, 0, this, rfl⟩
  | k + 1, b, hb, hk => by
    have h1 := isC_lt hP ha; have h2 := isC_lt hP hb
    have hC := hP.1; have hR := hP.2.1
    obtain ⟨a1, a2⟩ := ha
    obtain ⟨b1, b2⟩ := hb
    have step : ∀ c d, isC P c → d < 4 → nb4 P c d = some b → (if a % 8 ≤ c % 8 then c % 8 - a % 8 else a % 8 - c % 8) + (if a / 8 ≤ c / 8 then c / 8 - a / 8 else a / 8 - c / 8) = k → ∃ n u, Pth P h a n b u := by
      intro c d hc hd hn hkk
      obtain ⟨n, u, hp⟩ := Pth_ex hP h ⟨a1, a2⟩ k c hc hkk
      exact ⟨n + 1, _, c, u, hp, ⟨hc, ⟨b1, b2⟩, d, hd, hn⟩, rfl⟩
    by_cases q1 : b % 8 < a % 8
    · refine step (b + 1) 1 ⟨by omega, by omega⟩ (by decide) ?_ ?_
      · simp only [nb4]
        rw [if_neg (by decide), if_pos (by decide), if_pos (by omega)]; congr 1
      · rw [if_neg (by omega)] at hk
        have e1 : (b + 1) % 8 = b % 8 + 1 := by omega
        have e2 : (b + 1) / 8 = b / 8 := by omega
        rw [e1, e2]
        split <;> omega
    · by_cases q2 : a % 8 < b % 8
      · refine step (b - 1) 2 ⟨by omega, by omega⟩ (by decide) ?_ ?_
        · simp only [nb4]
          rw [if_neg (by decide), if_neg (by decide), if_pos (by decide), if_pos (by omega)]; congr 1; omega
        · rw [if_pos (by omega)] at hk
          have e1 : (b - 1) % 8 = b % 8 - 1 := by omega
          have e2 : (b - 1) / 8 = b / 8 := by omega
          rw [e1, e2, if_pos (by omega)]
          omega
      · rw [if_pos (by omega)] at hk
        by_cases q3 : b / 8 < a / 8
        · refine step (b + 8) 0 ⟨by omega, by omega⟩ (by decide) ?_ ?_
          · simp only [nb4]
            rw [if_pos (by decide), if_pos (by omega)]; congr 1
          · rw [if_neg (by omega)] at hk
            have e1 : (b + 8) % 8 = b % 8 := by omega
            have e2 : (b + 8) / 8 = b / 8 + 1 := by omega
            rw [e1, e2, if_pos (by omega)]
            split <;> omega
        · rw [if_pos (by omega)] at hk
          refine step (b - 8) 3 ⟨by omega, by omega⟩ (by decide) ?_ ?_
          · simp only [nb4]
            rw [if_neg (by decide), if_neg (by decide), if_neg (by decide), if_pos (by omega)]; congr 1; omega
          · have e1 : (b - 8) % 8 = b % 8 := by omega
            have e2 : (b - 8) / 8 = b / 8 - 1 := by omega
            rw [e1, e2, if_pos (by omega), if_pos (by omega)]
            omega
/-! costs found so far: none where nothing is known -/
def sumF (f : Nat → Nat) : List Nat → Nat
  | [] => 0
  | c :: l => f c + sumF f l
theorem sumF_up {f g : Nat → Nat} {b : Nat} : ∀ {l : List Nat}, l.Nodup → (∀ c, c ≠ b → g c = f c) → (b ∉ l → sumF g l = sumF f l) ∧ (b ∈ l → sumF g l + f b = sumF f l + g b)
  | [], _, _ => ⟨fun _ => rfl, fun h => by cases h⟩
  | c :: l, hn, he => by
    obtain ⟨h1, h2⟩ := sumF_up (l := l) (List.nodup_cons.mp hn).2 he
    have h3 := (List.nodup_cons.mp hn).1
    simp only [sumF]
    by_cases z : c = b
    · subst z
      exact ⟨fun q => absurd List.mem_cons_self q, fun _ => by rw [h1 h3]; omega⟩
    · rw [he c z]
      refine ⟨fun q => by rw [h1 (fun r => q (List.mem_cons_of_mem _ r))], fun q => ?_⟩
      rcases List.mem_cons.mp q with q | q
      · exact absurd q.symm z
      · have := h2 q; omega
theorem cls_nodup (P : Pl) : (cls P).Nodup := List.nodup_range.filter _
def oB (d : Nat → Option Nat) (c : Nat) : Nat := match d c with | none => 10000 | some v => v
def oC (d : Nat → Option Nat) (c : Nat) : Nat := match d c with | none => 0 | some _ => 1
def upO (d : Nat → Option Nat) (b v : Nat) : Nat → Option Nat := fun x => if x = b then some v else d x
def RelI (P : Pl) (h : Nat → Nat) (a : Nat) (d : Nat → Option Nat) : Prop := d a = some 0 ∧ (∀ b v, d b = some v → isC P b ∧ (∃ n, Pth P h a n b v) ∧ v + 100 ≤ 100 * sumF (oC d) (cls P))
theorem sumF_le {f : Nat → Nat} (hf : ∀ c, f c ≤ 1) : ∀ l : List Nat, sumF f l ≤ l.length
  | [] => Nat.le_refl _
  | c :: l => by have := sumF_le hf l; have := hf c; simp only [sumF, List.length_cons]; omega
theorem cls_len {P : Pl} (hP : plOK P) : (cls P).length ≤ 49 := by rw [cls_map hP]; simp; exact cr_le hP
theorem RelI.le {P : Pl} (hP : plOK P) {h : Nat → Nat} {a : Nat} {d : Nat → Option Nat} (hr : RelI P h a d) {b v : Nat} (hv : d b = some v) : v ≤ 4800 := by
  have h1 := (hr.2 b v hv).2.2
  have h2 := sumF_le (f := oC d) (fun c => by unfold oC; split <;> omega) (cls P)
  have h3 := cls_len hP
  omega
theorem hd_le {P : Pl} {h : Nat → Nat} (hh : ∀ c, isC P c → h c ≤ 99) {a b : Nat} (ha : isC P a) (hb : isC P b) : hd h a b ≤ 100 := by
  have := hh a ha; have := hh b hb
  unfold hd; split <;> omega
/-- a cost is lowered: all stays well, and there is less to do -/
theorem RelI.up {P : Pl} (hP : plOK P) {h : Nat → Nat} (hh : ∀ c, isC P c → h c ≤ 99) {a : Nat} {d : Nat → Option Nat} (hr : RelI P h a d) {c b v : Nat} (hv : d c = some v) (hc : adjC P c b) (hn : ∀ u, d b = some u → v + hd h c b < u) : RelI P h a (upO d b (v + hd h c b)) ∧ sumF (oB (upO d b (v + hd h c b))) (cls P) < sumF (oB d) (cls P) := by
  obtain ⟨h1, h2⟩ := hr
  have hle := RelI.le hP ⟨h1, h2⟩ hv
  have hhd := hd_le hh hc.1 hc.2.1
  have hbm : b ∈ cls P := (mem_cls hP).mpr hc.2.1
  have hpos : 0 < hd h c b := by unfold hd; omega
  have ha0 : a ≠ b := fun z => by subst z; have := hn 0 h1; omega
  have hb1 : oC (upO d b (v + hd h c b)) b = 1 := by simp [oC, upO]
  have hb2 : oB (upO d b (v + hd h c b)) b = v + hd h c b := by simp [oB, upO]
  have s1 := (sumF_up (f := oC d) (g := oC (upO d b (v + hd h c b))) (b := b) (cls_nodup P) (fun x hx => by simp [oC, upO, hx])).2 hbm
  have s2 := (sumF_up (f := oB d) (g := oB (upO d b (v + hd h c b))) (b := b) (cls_nodup P) (fun x hx => by simp [oB, upO, hx])).2 hbm
  rw [hb1] at s1
  rw [hb2] at s2
  obtain ⟨p1, ⟨n, p2⟩, p3⟩ := h2 c v hv
  have hcle : oC d b ≤ 1 := by unfold oC; split <;> omega
  refine ⟨⟨by unfold upO; rw [if_neg ha0]; exact h1, fun x u hu => ?_⟩, ?_⟩
  · unfold upO at hu
    by_cases z : x = b
    · subst z
      rw [if_pos rfl] at hu
      cases hu
      refine ⟨hc.2.1, ⟨n + 1, c, v, p2, hc, rfl⟩, ?_⟩
      cases hdb : d x with
      | none =>
        have : oC d x = 0 := by simp [oC, hdb]
        omega
      | some u =>
        have h4 := (h2 x u hdb).2.2
        have := hn u hdb
        omega
    · rw [if_neg z] at hu
      obtain ⟨q1, q2, q3⟩ := h2 x u hu
      exact ⟨q1, q2, by omega⟩
  · have : v + hd h c b < oB d b := by
      unfold oB
      cases hdb : d b with
      | none => simp only []; omega
      | some u => simp only []; exact hn u hdb
    omega
/-- nothing more can be lowered: the costs are the least -/
theorem RelI.done {P : Pl} (hP : plOK P) {h : Nat → Nat} {a : Nat} (ha : isC P a) {d : Nat → Option Nat} (hr : RelI P h a d) (hx : ∀ c b v, d c = some v → adjC P c b → ∃ u, d b = some u ∧ u ≤ v + hd h c b) {b : Nat} (hb : isC P b) : ∃ v, d b = some v ∧ IsW P h a b v := by
  have key : ∀ n b u, Pth P h a n b u → ∃ v, d b = some v ∧ v ≤ u := by
    intro n
    induction n with
    | zero => rintro b u ⟨rfl, rfl⟩; exact ⟨0, hr.1, Nat.le_refl _⟩
    | succ n ih =>
      rintro b u ⟨c, w, h1, h2, rfl⟩
      obtain ⟨v, h3, h4⟩ := ih c w h1
      obtain ⟨u, h5, h6⟩ := hx c b v h3 h2
      exact ⟨u, h5, by omega⟩
  obtain ⟨n, u, hp⟩ := Pth_ex hP h ha _ b hb rfl
  obtain ⟨v, h1, -⟩ := key n b u hp
  refine ⟨v, h1, (hr.2 b v h1).2.1, fun m w hw => ?_⟩
  obtain ⟨v', h2, h3⟩ := key m b w hw
  rw [h1] at h2; cases h2; exact h3
theorem RelI.start {P : Pl} (hP : plOK P) {h : Nat → Nat} {a : Nat} (ha : isC P a) : RelI P h a (fun x => if x = a then some 0 else none) := by
  refine ⟨by simp, fun b v hv => ?_⟩
  have hv : (if b = a then some 0 else none) = some v := hv
  by_cases z : b = a
  · subst z
    rw [if_pos rfl] at hv
    cases hv
    refine ⟨ha, ⟨0, rfl, rfl⟩, ?_⟩
    have s1 := (sumF_up (f := fun _ => 0) (g := oC (fun x => if x = b then some 0 else none)) (b := b) (cls_nodup P) (fun x hx => by simp [oC, hx])).2 ((mem_cls hP).mpr ha)
    have : oC (fun x => if x = b then some 0 else none) b = 1 := by simp [oC]
    omega
  · rw [if_neg z] at hv; cases hv
noncomputable def opWay (Z : Wd) (x y : Int32) : Int32 := match cellN (wP Z) x, cellN (wP Z) y with
  | some a, some b => nI (zWay (wP Z) (zH (wS Z)) a b)
  | _, _ => M1
