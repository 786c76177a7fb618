/-! THE FRAMEWORK: one judgement GW for every walk: the machine's fixed things are one tuple, the locals a list, the memory anything with an invariant -/
abbrev Cx : Type := Program × Launch × Env × Room × State × MethodId × Array Value × List Frame × Method × Code
def cxS (κ : Cx) : State := κ.2.2.2.2.1
def cxR (κ : Cx) : Room := κ.2.2.2.1
def cxC (κ : Cx) : Code := κ.2.2.2.2.2.2.2.2.2
def cxM (κ : Cx) : MethodId := κ.2.2.2.2.2.1
def cxA (κ : Cx) : Array Value := κ.2.2.2.2.2.2.1
def cxT (κ : Cx) : Method := κ.2.2.2.2.2.2.2.2.1
def cxW (κ : Cx) (H : Heap) (locs : List Loc) (cells slots : Nat) (Q : State → Prop) (pc : Nat) (ls : Array Slot) (st : List Value) : Prop :=
  W κ.1 κ.2.1 κ.2.2.1 κ.2.2.2.1 κ.2.2.2.2.1 κ.2.2.2.2.2.1 κ.2.2.2.2.2.2.1 κ.2.2.2.2.2.2.2.1 κ.2.2.2.2.2.2.2.2.1 κ.2.2.2.2.2.2.2.2.2 H locs cells slots Q (F0 κ.2.2.2.2.2.1 pc ls st)
def CxOK (κ : Cx) (cc : ByteArray) (own : String) : Prop := κ.1.tables.exec = Jvm.exec ∧ (cxC κ).code = cc ∧ (cxS κ).vm.findClass own = some (cxM κ).cls ∧ ∀ w ∈ lw_all, w.before (cxA κ) (cxS κ) = true
def LV (ls : Array Slot) (n : Nat) (lv : List (Option Value)) : Prop := ls.size = n ∧ lv_wf ls ∧ lv.length = n ∧ ∀ (i : Nat) (v : Value), lv[i]? = some (some v) → ls[i]? = some (.val v)
def GW {M : Type} (κ : Cx) (A : Nat → Prop) (Inv : M → Heap → Nat → Nat → Prop) (Q : State → Prop) (pc : Nat) (μ : M) (lv : List (Option Value)) (st : List Value) : Prop :=
  ∀ (H : Heap) (locs : List Loc) (ls : Array Slot) (cells slots : Nat), Inv μ H cells slots → va_S A (cxS κ).heap H locs → LV ls (cxC κ).maxLocals lv → cxW κ H locs cells slots Q pc ls st
def lvAs (lv : List (Option Value)) : List (Nat × Value) := (List.range lv.length).filterMap (fun j => match lv[j]? with | some (some v) => some (j, v) | _ => none)
theorem lvAs_mem {lv : List (Option Value)} {i : Nat} {v : Value} (h : lv[i]? = some (some v)) : (i, v) ∈ lvAs lv := by
  have hl : i < lv.length := (List.getElem?_eq_some_iff.mp h).1
  refine List.mem_filterMap.mpr ⟨i, List.mem_range.mpr hl, ?_⟩
  rw [h]
theorem lvAs_of {lv : List (Option Value)} {q : Nat × Value} (h : q ∈ lvAs lv) : lv[q.1]? = some (some q.2) := by
  obtain ⟨j, -, hj⟩ := List.mem_filterMap.mp h
  cases hv : lv[j]? with
  | none => rw [hv] at hj; cases hj
  | some o =>
    cases o with
    | none => rw [hv] at hj; cases hj
    | some v => rw [hv] at hj; cases hj; exact hv
theorem LV.has {ls : Array Slot} {n : Nat} {lv : List (Option Value)} (h : LV ls n lv) : lv_has ls n (lvAs lv) := ⟨h.1, h.2.1, fun q hq => h.2.2.2 _ _ (lvAs_of hq)⟩
def lvOk : Option Value → Bool
  | none => true
  | some v => v.category == 1
def lvPrev (lv : List (Option Value)) (i : Nat) : Prop := ∀ (j : Nat) (w : Value), j + 1 = i → lv[j]? = some (some w) → ¬ w.category = 2
theorem lvSet1 {ls : Array Slot} {n i : Nat} {v : Value} {lv : List (Option Value)} (h : lv_has ls n ((i, v) :: (lvAs lv).filter (fun q => !(q.1 == i) && !(q.1 + 1 == i && q.2.category == 2)))) (hn : lv.length = n) (hp : lvPrev lv i) : LV ls n (lv.set i (some v)) := by
  refine ⟨h.1, h.2.1, by rw [List.length_set]; exact hn, fun j w hj => ?_⟩
  by_cases e : j = i
  · subst e
    have hl : j < lv.length := by
      have := (List.getElem?_eq_some_iff.mp hj).1
      rwa [List.length_set] at this
    rw [List.getElem?_set_self hl] at hj
    cases hj
    exact h.2.2 _ List.mem_cons_self
  · rw [List.getElem?_set_ne (Ne.symm e)] at hj
    refine h.2.2 (j, w) (List.mem_cons_of_mem _ (List.mem_filter.mpr ⟨lvAs_mem hj, ?_⟩))
    by_cases e2 : j + 1 = i
    · have := hp j w e2 hj
      simp [e, this]
    · simp [e, e2]
theorem lvSet2 {ls : Array Slot} {n i : Nat} {v : Value} {lv : List (Option Value)} (h : lv_has ls n ((i, v) :: (lvAs lv).filter (fun q => !(q.1 == i) && (!(q.1 == i + 1) && !(q.1 + 1 == i && q.2.category == 2))))) (hn : lv.length = n) (hp : lvPrev lv i) : LV ls n ((lv.set i (some v)).set (i + 1) none) := by
  refine ⟨h.1, h.2.1, by rw [List.length_set, List.length_set]; exact hn, fun j w hj => ?_⟩
  by_cases e1 : j = i + 1
  · subst e1
    have hl : i + 1 < (lv.set i (some v)).length := by
      have := (List.getElem?_eq_some_iff.mp hj).1
      rwa [List.length_set] at this
    rw [List.getElem?_set_self hl] at hj
    cases hj
  rw [List.getElem?_set_ne (Ne.symm e1)] at hj
  by_cases e : j = i
  · subst e
    have hl : j < lv.length := by
      have := (List.getElem?_eq_some_iff.mp hj).1
      rwa [List.length_set] at this
    rw [List.getElem?_set_self hl] at hj
    cases hj
    exact h.2.2 _ List.mem_cons_self
  · rw [List.getElem?_set_ne (Ne.symm e)] at hj
    refine h.2.2 (j, w) (List.mem_cons_of_mem _ (List.mem_filter.mpr ⟨lvAs_mem hj, ?_⟩))
    by_cases e2 : j + 1 = i
    · have := hp j w e2 hj
      simp [e, e1, this]
    · simp [e, e1, e2]
def slotVal : Slot → Option Value
  | .val v => some v
  | _ => none
def lvOf (n : Nat) (vs : List Value) : List (Option Value) := (lg_sl vs ++ List.replicate (n - (lg_sl vs).length) Slot.unset).map slotVal
theorem LV_entry (vs : List Value) {n : Nat} (h : (lg_sl vs).length ≤ n) : LV ((lg_sl vs ++ List.replicate (n - (lg_sl vs).length) Slot.unset).toArray) n (lvOf n vs) := by
  obtain ⟨h1, h2, h3⟩ := lv_entry vs h
  refine ⟨h1, h2, by simp [lvOf]; omega, fun i v hi => ?_⟩
  rw [lvOf, List.getElem?_map] at hi
  rw [List.getElem?_toArray]
  cases hs : (lg_sl vs ++ List.replicate (n - (lg_sl vs).length) Slot.unset)[i]? with
  | none => rw [hs] at hi; cases hi
  | some z =>
    rw [hs] at hi
    cases z with
    | val w => simp [slotVal] at hi; rw [hi]
    | second => simp [slotVal] at hi
    | unset => simp [slotVal] at hi
/-- less is known of the locals on the left -/
def lvLe : List (Option Value) → List (Option Value) → Prop
  | [], [] => True
  | none :: a, _ :: b => lvLe a b
  | some v :: a, some w :: b => v = w ∧ lvLe a b
  | _, _ => False
theorem lvLe_len : ∀ {a b : List (Option Value)}, lvLe a b → a.length = b.length
  | [], [], _ => rfl
  | none :: a, x :: b, h => by simp only [List.length_cons]; rw [lvLe_len (a := a) (b := b) (by simpa [lvLe] using h)]
  | some v :: a, some w :: b, h => by simp only [List.length_cons]; rw [lvLe_len (a := a) (b := b) (by simpa [lvLe] using h.2)]
  | some v :: a, none :: b, h => by simp [lvLe] at h
  | [], _ :: _, h => by simp [lvLe] at h
  | none :: _, [], h => by simp [lvLe] at h
  | some _ :: _, [], h => by simp [lvLe] at h
theorem lvLe_at : ∀ {a b : List (Option Value)}, lvLe a b → ∀ (i : Nat) (v : Value), a[i]? = some (some v) → b[i]? = some (some v)
  | [], [], _, i, v, h => by simp at h
  | none :: a, x :: b, hl, i, v, h => by
    cases i with
    | zero => simp at h
    | succ i => simpa using lvLe_at (a := a) (b := b) (by simpa [lvLe] using hl) i v (by simpa using h)
  | some z :: a, some w :: b, hl, i, v, h => by
    obtain ⟨e, hl⟩ := (show z = w ∧ lvLe a b from hl)
    cases i with
    | zero => subst e; simpa using h
    | succ i => simpa using lvLe_at (a := a) (b := b) hl i v (by simpa using h)
  | some v :: a, none :: b, h, _, _, _ => by simp [lvLe] at h
  | [], _ :: _, h, _, _, _ => by simp [lvLe] at h
  | none :: _, [], h, _, _, _ => by simp [lvLe] at h
  | some _ :: _, [], h, _, _, _ => by simp [lvLe] at h
theorem LV.le {ls : Array Slot} {n : Nat} {a b : List (Option Value)} (h : LV ls n b) (hl : lvLe a b) : LV ls n a := ⟨h.1, h.2.1, (lvLe_len hl).trans h.2.2.1, fun i v hi => h.2.2.2 i v (lvLe_at hl i v hi)⟩
theorem lvPrev_0 {lv : List (Option Value)} : lvPrev lv 0 := fun j w h _ => by omega
theorem lvOk_no {x : Option Value} {w : Value} (h : lvOk x = true) (e : x = some w) : ¬ w.category = 2 := by
  subst e
  have : w.category = 1 := by simpa [lvOk] using h
  omega
theorem lvPrev_of_1 {x0 : Option Value} {o : Option Value} {r : List (Option Value)} (hp : lvOk x0 = true) : lvPrev (x0 :: o :: r) 1 := fun j w e hj => by
  obtain rfl : j = 0 := by omega
  exact lvOk_no hp (Option.some.inj hj)
theorem lvPrev_of_2 {x0 x1 : Option Value} {o : Option Value} {r : List (Option Value)} (hp : lvOk x1 = true) : lvPrev (x0 :: x1 :: o :: r) 2 := fun j w e hj => by
  obtain rfl : j = 1 := by omega
  exact lvOk_no hp (Option.some.inj hj)
theorem lvPrev_of_3 {x0 x1 x2 : Option Value} {o : Option Value} {r : List (Option Value)} (hp : lvOk x2 = true) : lvPrev (x0 :: x1 :: x2 :: o :: r) 3 := fun j w e hj => by
  obtain rfl : j = 2 := by omega
  exact lvOk_no hp (Option.some.inj hj)
theorem lvPrev_of_4 {x0 x1 x2 x3 : Option Value} {o : Option Value} {r : List (Option Value)} (hp : lvOk x3 = true) : lvPrev (x0 :: x1 :: x2 :: x3 :: o :: r) 4 := fun j w e hj => by
  obtain rfl : j = 3 := by omega
  exact lvOk_no hp (Option.some.inj hj)
theorem lvPrev_of_5 {x0 x1 x2 x3 x4 : Option Value} {o : Option Value} {r : List (Option Value)} (hp : lvOk x4 = true) : lvPrev (x0 :: x1 :: x2 :: x3 :: x4 :: o :: r) 5 := fun j w e hj => by
  obtain rfl : j = 4 := by omega
  exact lvOk_no hp (Option.some.inj hj)
theorem lvPrev_of_6 {x0 x1 x2 x3 x4 x5 : Option Value} {o : Option Value} {r : List (Option Value)} (hp : lvOk x5 = true) : lvPrev (x0 :: x1 :: x2 :: x3 :: x4 :: x5 :: o :: r) 6 := fun j w e hj => by
  obtain rfl : j = 5 := by omega
  exact lvOk_no hp (Option.some.inj hj)
theorem lvPrev_of_7 {x0 x1 x2 x3 x4 x5 x6 : Option Value} {o : Option Value} {r : List (Option Value)} (hp : lvOk x6 = true) : lvPrev (x0 :: x1 :: x2 :: x3 :: x4 :: x5 :: x6 :: o :: r) 7 := fun j w e hj => by
  obtain rfl : j = 6 := by omega
  exact lvOk_no hp (Option.some.inj hj)
theorem lvPrev_of_8 {x0 x1 x2 x3 x4 x5 x6 x7 : Option Value} {o : Option Value} {r : List (Option Value)} (hp : lvOk x7 = true) : lvPrev (x0 :: x1 :: x2 :: x3 :: x4 :: x5 :: x6 :: x7 :: o :: r) 8 := fun j w e hj => by
  obtain rfl : j = 7 := by omega
  exact lvOk_no hp (Option.some.inj hj)
theorem lvPrev_of_9 {x0 x1 x2 x3 x4 x5 x6 x7 x8 : Option Value} {o : Option Value} {r : List (Option Value)} (hp : lvOk x8 = true) : lvPrev (x0 :: x1 :: x2 :: x3 :: x4 :: x5 :: x6 :: x7 :: x8 :: o :: r) 9 := fun j w e hj => by
  obtain rfl : j = 8 := by omega
  exact lvOk_no hp (Option.some.inj hj)
theorem lvPrev_of_10 {x0 x1 x2 x3 x4 x5 x6 x7 x8 x9 : Option Value} {o : Option Value} {r : List (Option Value)} (hp : lvOk x9 = true) : lvPrev (x0 :: x1 :: x2 :: x3 :: x4 :: x5 :: x6 :: x7 :: x8 :: x9 :: o :: r) 10 := fun j w e hj => by
  obtain rfl : j = 9 := by omega
  exact lvOk_no hp (Option.some.inj hj)
theorem lvPrev_of_11 {x0 x1 x2 x3 x4 x5 x6 x7 x8 x9 x10 : Option Value} {o : Option Value} {r : List (Option Value)} (hp : lvOk x10 = true) : lvPrev (x0 :: x1 :: x2 :: x3 :: x4 :: x5 :: x6 :: x7 :: x8 :: x9 :: x10 :: o :: r) 11 := fun j w e hj => by
  obtain rfl : j = 10 := by omega
  exact lvOk_no hp (Option.some.inj hj)
theorem lvPrev_of_12 {x0 x1 x2 x3 x4 x5 x6 x7 x8 x9 x10 x11 : Option Value} {o : Option Value} {r : List (Option Value)} (hp : lvOk x11 = true) : lvPrev (x0 :: x1 :: x2 :: x3 :: x4 :: x5 :: x6 :: x7 :: x8 :: x9 :: x10 :: x11 :: o :: r) 12 := fun j w e hj => by
  obtain rfl : j = 11 := by omega
  exact lvOk_no hp (Option.some.inj hj)
theorem lvPrev_of_13 {x0 x1 x2 x3 x4 x5 x6 x7 x8 x9 x10 x11 x12 : Option Value} {o : Option Value} {r : List (Option Value)} (hp : lvOk x12 = true) : lvPrev (x0 :: x1 :: x2 :: x3 :: x4 :: x5 :: x6 :: x7 :: x8 :: x9 :: x10 :: x11 :: x12 :: o :: r) 13 := fun j w e hj => by
  obtain rfl : j = 12 := by omega
  exact lvOk_no hp (Option.some.inj hj)
theorem lvPrev_of_14 {x0 x1 x2 x3 x4 x5 x6 x7 x8 x9 x10 x11 x12 x13 : Option Value} {o : Option Value} {r : List (Option Value)} (hp : lvOk x13 = true) : lvPrev (x0 :: x1 :: x2 :: x3 :: x4 :: x5 :: x6 :: x7 :: x8 :: x9 :: x10 :: x11 :: x12 :: x13 :: o :: r) 14 := fun j w e hj => by
  obtain rfl : j = 13 := by omega
  exact lvOk_no hp (Option.some.inj hj)
theorem lvPrev_of_15 {x0 x1 x2 x3 x4 x5 x6 x7 x8 x9 x10 x11 x12 x13 x14 : Option Value} {o : Option Value} {r : List (Option Value)} (hp : lvOk x14 = true) : lvPrev (x0 :: x1 :: x2 :: x3 :: x4 :: x5 :: x6 :: x7 :: x8 :: x9 :: x10 :: x11 :: x12 :: x13 :: x14 :: o :: r) 15 := fun j w e hj => by
  obtain rfl : j = 14 := by omega
  exact lvOk_no hp (Option.some.inj hj)
section FW
variable {M : Type} {κ : Cx} {A : Nat → Prop} {Inv : M → Heap → Nat → Nat → Prop} {Q : State → Prop} {cc : ByteArray} {own : String} {μ : M} {lv : List (Option Value)} {st : List Value}
theorem g_le {pc : Nat} {lv' : List (Option Value)} (k : GW κ A Inv Q pc μ lv st) (hl : lvLe lv lv') : GW κ A Inv Q pc μ lv' st :=
  fun H locs ls cells slots a b c => k H locs ls cells slots a b (c.le hl)
theorem g_imp {pc : Nat} {μ' : M} (k : GW κ A Inv Q pc μ lv st) (hi : ∀ H cells slots, Inv μ' H cells slots → Inv μ H cells slots) : GW κ A Inv Q pc μ' lv st :=
  fun H locs ls cells slots a b c => k H locs ls cells slots (hi H cells slots a) b c
theorem g_iconst (pc : Nat) {n : Int} (h : CxOK κ cc own) (d : decode cc pc = .ok (.iconst n, 1)) (k : GW κ A Inv Q (pc + 1) μ lv (.int (Int32.ofInt n) :: st)) : GW κ A Inv Q pc μ lv (st) :=
  fun H locs ls cells slots a b c => lv_iconst h.1 h.2.1 d rfl (k H locs ls cells slots a b c)
theorem g_iconstv (pc : Nat) {n : Int} (v : Int32) (hv : Int32.ofInt n = v) (h : CxOK κ cc own) (d : decode cc pc = .ok (.iconst n, 1)) (k : GW κ A Inv Q (pc + 1) μ lv (.int v :: st)) : GW κ A Inv Q pc μ lv (st) :=
  fun H locs ls cells slots a b c => lv_iconst h.1 h.2.1 d hv (k H locs ls cells slots a b c)
theorem g_bipush (pc : Nat) {n : Int} (v : Int32) (hv : (Int8.ofInt n).toInt32 = v) (h : CxOK κ cc own) (d : decode cc pc = .ok (.bipush n, 2)) (k : GW κ A Inv Q (pc + 2) μ lv (.int v :: st)) : GW κ A Inv Q pc μ lv (st) :=
  fun H locs ls cells slots a b c => lv_bipush h.1 h.2.1 d hv (k H locs ls cells slots a b c)
theorem g_sipush (pc : Nat) {n : Int} (v : Int32) (hv : (Int16.ofInt n).toInt32 = v) (h : CxOK κ cc own) (d : decode cc pc = .ok (.sipush n, 3)) (k : GW κ A Inv Q (pc + 3) μ lv (.int v :: st)) : GW κ A Inv Q pc μ lv (st) :=
  fun H locs ls cells slots a b c => lv_sipush h.1 h.2.1 d hv (k H locs ls cells slots a b c)
theorem g_lconst (pc : Nat) {n : Fin 2} (v : Int64) (hv : Int64.ofNat (n : Nat) = v) (h : CxOK κ cc own) (d : decode cc pc = .ok (.lconst n, 1)) (k : GW κ A Inv Q (pc + 1) μ lv (.long v :: st)) : GW κ A Inv Q pc μ lv (st) :=
  fun H locs ls cells slots a b c => lv_lconst h.1 h.2.1 d hv (k H locs ls cells slots a b c)
theorem g_iadd (pc : Nat) {x y : Int32} (h : CxOK κ cc own) (d : decode cc pc = .ok (.iadd, 1)) (k : GW κ A Inv Q (pc + 1) μ lv (.int (x + y) :: st)) : GW κ A Inv Q pc μ lv (.int y :: .int x :: st) :=
  fun H locs ls cells slots a b c => lv_iadd h.1 h.2.1 d  (k H locs ls cells slots a b c)
theorem g_isub (pc : Nat) {x y : Int32} (h : CxOK κ cc own) (d : decode cc pc = .ok (.isub, 1)) (k : GW κ A Inv Q (pc + 1) μ lv (.int (x - y) :: st)) : GW κ A Inv Q pc μ lv (.int y :: .int x :: st) :=
  fun H locs ls cells slots a b c => lv_isub h.1 h.2.1 d  (k H locs ls cells slots a b c)
theorem g_imul (pc : Nat) {x y : Int32} (h : CxOK κ cc own) (d : decode cc pc = .ok (.imul, 1)) (k : GW κ A Inv Q (pc + 1) μ lv (.int (x * y) :: st)) : GW κ A Inv Q pc μ lv (.int y :: .int x :: st) :=
  fun H locs ls cells slots a b c => lv_imul h.1 h.2.1 d  (k H locs ls cells slots a b c)
theorem g_iand (pc : Nat) {x y : Int32} (h : CxOK κ cc own) (d : decode cc pc = .ok (.iand, 1)) (k : GW κ A Inv Q (pc + 1) μ lv (.int (x &&& y) :: st)) : GW κ A Inv Q pc μ lv (.int y :: .int x :: st) :=
  fun H locs ls cells slots a b c => lv_iand h.1 h.2.1 d  (k H locs ls cells slots a b c)
theorem g_ior (pc : Nat) {x y : Int32} (h : CxOK κ cc own) (d : decode cc pc = .ok (.ior, 1)) (k : GW κ A Inv Q (pc + 1) μ lv (.int (x ||| y) :: st)) : GW κ A Inv Q pc μ lv (.int y :: .int x :: st) :=
  fun H locs ls cells slots a b c => lv_ior h.1 h.2.1 d  (k H locs ls cells slots a b c)
theorem g_ixor (pc : Nat) {x y : Int32} (h : CxOK κ cc own) (d : decode cc pc = .ok (.ixor, 1)) (k : GW κ A Inv Q (pc + 1) μ lv (.int (x ^^^ y) :: st)) : GW κ A Inv Q pc μ lv (.int y :: .int x :: st) :=
  fun H locs ls cells slots a b c => lv_ixor h.1 h.2.1 d  (k H locs ls cells slots a b c)
theorem g_ishl (pc : Nat) {x y : Int32} (h : CxOK κ cc own) (d : decode cc pc = .ok (.ishl, 1)) (k : GW κ A Inv Q (pc + 1) μ lv (.int (x <<< (y &&& 31)) :: st)) : GW κ A Inv Q pc μ lv (.int y :: .int x :: st) :=
  fun H locs ls cells slots a b c => lv_ishl h.1 h.2.1 d  (k H locs ls cells slots a b c)
theorem g_ishr (pc : Nat) {x y : Int32} (h : CxOK κ cc own) (d : decode cc pc = .ok (.ishr, 1)) (k : GW κ A Inv Q (pc + 1) μ lv (.int (x >>> (y &&& 31)) :: st)) : GW κ A Inv Q pc μ lv (.int y :: .int x :: st) :=
  fun H locs ls cells slots a b c => lv_ishr h.1 h.2.1 d  (k H locs ls cells slots a b c)
theorem g_iushr (pc : Nat) {x y : Int32} (h : CxOK κ cc own) (d : decode cc pc = .ok (.iushr, 1)) (k : GW κ A Inv Q (pc + 1) μ lv (.int (x.toUInt32 >>> (y.toUInt32 &&& Int32.toUInt32 31)).toInt32 :: st)) : GW κ A Inv Q pc μ lv (.int y :: .int x :: st) :=
  fun H locs ls cells slots a b c => lv_iushr h.1 h.2.1 d rfl (k H locs ls cells slots a b c)
theorem g_idiv (pc : Nat) {x y : Int32} (hne : ¬ y = 0) (h : CxOK κ cc own) (d : decode cc pc = .ok (.idiv, 1)) (k : GW κ A Inv Q (pc + 1) μ lv (.int (x / y) :: st)) : GW κ A Inv Q pc μ lv (.int y :: .int x :: st) :=
  fun H locs ls cells slots a b c => lv_idiv h.1 h.2.1 d hne (k H locs ls cells slots a b c)
theorem g_irem (pc : Nat) {x y : Int32} (hne : ¬ y = 0) (h : CxOK κ cc own) (d : decode cc pc = .ok (.irem, 1)) (k : GW κ A Inv Q (pc + 1) μ lv (.int (x - x / y * y) :: st)) : GW κ A Inv Q pc μ lv (.int y :: .int x :: st) :=
  fun H locs ls cells slots a b c => lv_irem h.1 h.2.1 d hne (k H locs ls cells slots a b c)
theorem g_ladd (pc : Nat) {x y : Int64} (h : CxOK κ cc own) (d : decode cc pc = .ok (.ladd, 1)) (k : GW κ A Inv Q (pc + 1) μ lv (.long (x + y) :: st)) : GW κ A Inv Q pc μ lv (.long y :: .long x :: st) :=
  fun H locs ls cells slots a b c => lv_ladd h.1 h.2.1 d  (k H locs ls cells slots a b c)
theorem g_lsub (pc : Nat) {x y : Int64} (h : CxOK κ cc own) (d : decode cc pc = .ok (.lsub, 1)) (k : GW κ A Inv Q (pc + 1) μ lv (.long (x - y) :: st)) : GW κ A Inv Q pc μ lv (.long y :: .long x :: st) :=
  fun H locs ls cells slots a b c => lv_lsub h.1 h.2.1 d  (k H locs ls cells slots a b c)
theorem g_lmul (pc : Nat) {x y : Int64} (h : CxOK κ cc own) (d : decode cc pc = .ok (.lmul, 1)) (k : GW κ A Inv Q (pc + 1) μ lv (.long (x * y) :: st)) : GW κ A Inv Q pc μ lv (.long y :: .long x :: st) :=
  fun H locs ls cells slots a b c => lv_lmul h.1 h.2.1 d  (k H locs ls cells slots a b c)
theorem g_lxor (pc : Nat) {x y : Int64} (h : CxOK κ cc own) (d : decode cc pc = .ok (.lxor, 1)) (k : GW κ A Inv Q (pc + 1) μ lv (.long (x ^^^ y) :: st)) : GW κ A Inv Q pc μ lv (.long y :: .long x :: st) :=
  fun H locs ls cells slots a b c => lv_lxor h.1 h.2.1 d  (k H locs ls cells slots a b c)
theorem g_ldiv (pc : Nat) {x y : Int64} (hne : ¬ y = 0) (h : CxOK κ cc own) (d : decode cc pc = .ok (.ldiv, 1)) (k : GW κ A Inv Q (pc + 1) μ lv (.long (x / y) :: st)) : GW κ A Inv Q pc μ lv (.long y :: .long x :: st) :=
  fun H locs ls cells slots a b c => lv_ldiv h.1 h.2.1 d hne (k H locs ls cells slots a b c)
theorem g_lrem (pc : Nat) {x y : Int64} (hne : ¬ y = 0) (h : CxOK κ cc own) (d : decode cc pc = .ok (.lrem, 1)) (k : GW κ A Inv Q (pc + 1) μ lv (.long (x - x / y * y) :: st)) : GW κ A Inv Q pc μ lv (.long y :: .long x :: st) :=
  fun H locs ls cells slots a b c => lv_lrem h.1 h.2.1 d hne (k H locs ls cells slots a b c)
theorem g_ineg (pc : Nat) {x : Int32} (h : CxOK κ cc own) (d : decode cc pc = .ok (.ineg, 1)) (k : GW κ A Inv Q (pc + 1) μ lv (.int (-x) :: st)) : GW κ A Inv Q pc μ lv (.int x :: st) :=
  fun H locs ls cells slots a b c => lv_ineg h.1 h.2.1 d  (k H locs ls cells slots a b c)
theorem g_i2l (pc : Nat) {x : Int32} (h : CxOK κ cc own) (d : decode cc pc = .ok (.i2l, 1)) (k : GW κ A Inv Q (pc + 1) μ lv (.long x.toInt64 :: st)) : GW κ A Inv Q pc μ lv (.int x :: st) :=
  fun H locs ls cells slots a b c => lv_i2l h.1 h.2.1 d rfl (k H locs ls cells slots a b c)
theorem g_l2i (pc : Nat) {x : Int64} (h : CxOK κ cc own) (d : decode cc pc = .ok (.l2i, 1)) (k : GW κ A Inv Q (pc + 1) μ lv (.int x.toInt32 :: st)) : GW κ A Inv Q pc μ lv (.long x :: st) :=
  fun H locs ls cells slots a b c => lv_l2i h.1 h.2.1 d rfl (k H locs ls cells slots a b c)
theorem g_i2b (pc : Nat) {x : Int32} (h : CxOK κ cc own) (d : decode cc pc = .ok (.i2b, 1)) (k : GW κ A Inv Q (pc + 1) μ lv (.int x.toInt8.toInt32 :: st)) : GW κ A Inv Q pc μ lv (.int x :: st) :=
  fun H locs ls cells slots a b c => lv_i2b h.1 h.2.1 d rfl (k H locs ls cells slots a b c)
theorem g_i2c (pc : Nat) {x : Int32} (h : CxOK κ cc own) (d : decode cc pc = .ok (.i2c, 1)) (k : GW κ A Inv Q (pc + 1) μ lv (.int (x.toUInt32 % 65536).toInt32 :: st)) : GW κ A Inv Q pc μ lv (.int x :: st) :=
  fun H locs ls cells slots a b c => lv_i2c h.1 h.2.1 d rfl (k H locs ls cells slots a b c)
theorem g_lcmp (pc : Nat) {x y : Int64} (h : CxOK κ cc own) (d : decode cc pc = .ok (.lcmp, 1)) (k : GW κ A Inv Q (pc + 1) μ lv (.int (lg_cmp x y) :: st)) : GW κ A Inv Q pc μ lv (.long y :: .long x :: st) :=
  fun H locs ls cells slots a b c => W.lcmp h.1 h.2.1 d  (k H locs ls cells slots a b c)
theorem g_dup (pc : Nat) {va : Value} (hva : va.category = 1) (h : CxOK κ cc own) (d : decode cc pc = .ok (.dup, 1)) (k : GW κ A Inv Q (pc + 1) μ lv (va :: va :: st)) : GW κ A Inv Q pc μ lv (va :: st) :=
  fun H locs ls cells slots a b c => lv_dup h.1 h.2.1 d hva (k H locs ls cells slots a b c)
theorem g_pop (pc : Nat) {va : Value} (hva : va.category = 1) (h : CxOK κ cc own) (d : decode cc pc = .ok (.pop, 1)) (k : GW κ A Inv Q (pc + 1) μ lv (st)) : GW κ A Inv Q pc μ lv (va :: st) :=
  fun H locs ls cells slots a b c => lv_pop h.1 h.2.1 d hva (k H locs ls cells slots a b c)
theorem g_dup_x1 (pc : Nat) {va vb : Value} (hva : va.category = 1) (hvb : vb.category = 1) (h : CxOK κ cc own) (d : decode cc pc = .ok (.dup_x1, 1)) (k : GW κ A Inv Q (pc + 1) μ lv (va :: vb :: va :: st)) : GW κ A Inv Q pc μ lv (va :: vb :: st) :=
  fun H locs ls cells slots a b c => lv_dup_x1 h.1 h.2.1 d hva hvb (k H locs ls cells slots a b c)
theorem g_dup2 (pc : Nat) {va vb : Value} (hva : va.category = 1) (hvb : vb.category = 1) (h : CxOK κ cc own) (d : decode cc pc = .ok (.dup2, 1)) (k : GW κ A Inv Q (pc + 1) μ lv (va :: vb :: va :: vb :: st)) : GW κ A Inv Q pc μ lv (va :: vb :: st) :=
  fun H locs ls cells slots a b c => lv_dup2_11 h.1 h.2.1 d hva hvb (k H locs ls cells slots a b c)
theorem g_dup2l (pc : Nat) {va : Value} (hva : va.category = 2) (h : CxOK κ cc own) (d : decode cc pc = .ok (.dup2, 1)) (k : GW κ A Inv Q (pc + 1) μ lv (va :: va :: st)) : GW κ A Inv Q pc μ lv (va :: st) :=
  fun H locs ls cells slots a b c => lv_dup2_2 h.1 h.2.1 d hva (k H locs ls cells slots a b c)
theorem g_null (pc : Nat)  (h : CxOK κ cc own) (d : decode cc pc = .ok (.aconst_null, 1)) (k : GW κ A Inv Q (pc + 1) μ lv (.null :: st)) : GW κ A Inv Q pc μ lv (st) :=
  fun H locs ls cells slots a b c => lv_null h.1 h.2.1 d  (k H locs ls cells slots a b c)
theorem g_if_eq (pc tgt : Nat) {x : Int32} {off : Int} (h : CxOK κ cc own) (d : decode cc pc = .ok (.ifCond .eq off, 3)) (ht : (pc : Int) + off = (tgt : Int)) (kt : x = 0 → GW κ A Inv Q tgt μ lv st) (kf : ¬ x = 0 → GW κ A Inv Q (pc + 3) μ lv st) : GW κ A Inv Q pc μ lv (.int x :: st) :=
  fun H locs ls cells slots a b c => lv_if_eq h.1 h.2.1 d ht (fun q => kt q H locs ls cells slots a b c) (fun q => kf q H locs ls cells slots a b c)
theorem g_icmp_eq (pc tgt : Nat) {x y : Int32} {off : Int} (h : CxOK κ cc own) (d : decode cc pc = .ok (.if_icmp .eq off, 3)) (ht : (pc : Int) + off = (tgt : Int)) (kt : x = y → GW κ A Inv Q tgt μ lv st) (kf : ¬ x = y → GW κ A Inv Q (pc + 3) μ lv st) : GW κ A Inv Q pc μ lv (.int y :: .int x :: st) :=
  fun H locs ls cells slots a b c => lv_icmp_eq h.1 h.2.1 d ht (fun q => kt q H locs ls cells slots a b c) (fun q => kf q H locs ls cells slots a b c)
theorem g_if_ne (pc tgt : Nat) {x : Int32} {off : Int} (h : CxOK κ cc own) (d : decode cc pc = .ok (.ifCond .ne off, 3)) (ht : (pc : Int) + off = (tgt : Int)) (kt : ¬ x = 0 → GW κ A Inv Q tgt μ lv st) (kf : x = 0 → GW κ A Inv Q (pc + 3) μ lv st) : GW κ A Inv Q pc μ lv (.int x :: st) :=
  fun H locs ls cells slots a b c => lv_if_ne h.1 h.2.1 d ht (fun q => kt q H locs ls cells slots a b c) (fun q => kf q H locs ls cells slots a b c)
theorem g_icmp_ne (pc tgt : Nat) {x y : Int32} {off : Int} (h : CxOK κ cc own) (d : decode cc pc = .ok (.if_icmp .ne off, 3)) (ht : (pc : Int) + off = (tgt : Int)) (kt : ¬ x = y → GW κ A Inv Q tgt μ lv st) (kf : x = y → GW κ A Inv Q (pc + 3) μ lv st) : GW κ A Inv Q pc μ lv (.int y :: .int x :: st) :=
  fun H locs ls cells slots a b c => lv_icmp_ne h.1 h.2.1 d ht (fun q => kt q H locs ls cells slots a b c) (fun q => kf q H locs ls cells slots a b c)
theorem g_if_lt (pc tgt : Nat) {x : Int32} {off : Int} (h : CxOK κ cc own) (d : decode cc pc = .ok (.ifCond .lt off, 3)) (ht : (pc : Int) + off = (tgt : Int)) (kt : x < 0 → GW κ A Inv Q tgt μ lv st) (kf : ¬ x < 0 → GW κ A Inv Q (pc + 3) μ lv st) : GW κ A Inv Q pc μ lv (.int x :: st) :=
  fun H locs ls cells slots a b c => lv_if_lt h.1 h.2.1 d ht (fun q => kt q H locs ls cells slots a b c) (fun q => kf q H locs ls cells slots a b c)
theorem g_icmp_lt (pc tgt : Nat) {x y : Int32} {off : Int} (h : CxOK κ cc own) (d : decode cc pc = .ok (.if_icmp .lt off, 3)) (ht : (pc : Int) + off = (tgt : Int)) (kt : x < y → GW κ A Inv Q tgt μ lv st) (kf : ¬ x < y → GW κ A Inv Q (pc + 3) μ lv st) : GW κ A Inv Q pc μ lv (.int y :: .int x :: st) :=
  fun H locs ls cells slots a b c => lv_icmp_lt h.1 h.2.1 d ht (fun q => kt q H locs ls cells slots a b c) (fun q => kf q H locs ls cells slots a b c)
theorem g_if_ge (pc tgt : Nat) {x : Int32} {off : Int} (h : CxOK κ cc own) (d : decode cc pc = .ok (.ifCond .ge off, 3)) (ht : (pc : Int) + off = (tgt : Int)) (kt : 0 ≤ x → GW κ A Inv Q tgt μ lv st) (kf : ¬ 0 ≤ x → GW κ A Inv Q (pc + 3) μ lv st) : GW κ A Inv Q pc μ lv (.int x :: st) :=
  fun H locs ls cells slots a b c => lv_if_ge h.1 h.2.1 d ht (fun q => kt q H locs ls cells slots a b c) (fun q => kf q H locs ls cells slots a b c)
theorem g_icmp_ge (pc tgt : Nat) {x y : Int32} {off : Int} (h : CxOK κ cc own) (d : decode cc pc = .ok (.if_icmp .ge off, 3)) (ht : (pc : Int) + off = (tgt : Int)) (kt : y ≤ x → GW κ A Inv Q tgt μ lv st) (kf : ¬ y ≤ x → GW κ A Inv Q (pc + 3) μ lv st) : GW κ A Inv Q pc μ lv (.int y :: .int x :: st) :=
  fun H locs ls cells slots a b c => lv_icmp_ge h.1 h.2.1 d ht (fun q => kt q H locs ls cells slots a b c) (fun q => kf q H locs ls cells slots a b c)
theorem g_if_gt (pc tgt : Nat) {x : Int32} {off : Int} (h : CxOK κ cc own) (d : decode cc pc = .ok (.ifCond .gt off, 3)) (ht : (pc : Int) + off = (tgt : Int)) (kt : 0 < x → GW κ A Inv Q tgt μ lv st) (kf : ¬ 0 < x → GW κ A Inv Q (pc + 3) μ lv st) : GW κ A Inv Q pc μ lv (.int x :: st) :=
  fun H locs ls cells slots a b c => lv_if_gt h.1 h.2.1 d ht (fun q => kt q H locs ls cells slots a b c) (fun q => kf q H locs ls cells slots a b c)
theorem g_icmp_gt (pc tgt : Nat) {x y : Int32} {off : Int} (h : CxOK κ cc own) (d : decode cc pc = .ok (.if_icmp .gt off, 3)) (ht : (pc : Int) + off = (tgt : Int)) (kt : y < x → GW κ A Inv Q tgt μ lv st) (kf : ¬ y < x → GW κ A Inv Q (pc + 3) μ lv st) : GW κ A Inv Q pc μ lv (.int y :: .int x :: st) :=
  fun H locs ls cells slots a b c => lv_icmp_gt h.1 h.2.1 d ht (fun q => kt q H locs ls cells slots a b c) (fun q => kf q H locs ls cells slots a b c)
theorem g_if_le (pc tgt : Nat) {x : Int32} {off : Int} (h : CxOK κ cc own) (d : decode cc pc = .ok (.ifCond .le off, 3)) (ht : (pc : Int) + off = (tgt : Int)) (kt : x ≤ 0 → GW κ A Inv Q tgt μ lv st) (kf : ¬ x ≤ 0 → GW κ A Inv Q (pc + 3) μ lv st) : GW κ A Inv Q pc μ lv (.int x :: st) :=
  fun H locs ls cells slots a b c => lv_if_le h.1 h.2.1 d ht (fun q => kt q H locs ls cells slots a b c) (fun q => kf q H locs ls cells slots a b c)
theorem g_icmp_le (pc tgt : Nat) {x y : Int32} {off : Int} (h : CxOK κ cc own) (d : decode cc pc = .ok (.if_icmp .le off, 3)) (ht : (pc : Int) + off = (tgt : Int)) (kt : x ≤ y → GW κ A Inv Q tgt μ lv st) (kf : ¬ x ≤ y → GW κ A Inv Q (pc + 3) μ lv st) : GW κ A Inv Q pc μ lv (.int y :: .int x :: st) :=
  fun H locs ls cells slots a b c => lv_icmp_le h.1 h.2.1 d ht (fun q => kt q H locs ls cells slots a b c) (fun q => kf q H locs ls cells slots a b c)
theorem g_goto (pc tgt : Nat) {off : Int} (h : CxOK κ cc own) (d : decode cc pc = .ok (.goto off, 3)) (ht : (pc : Int) + off = (tgt : Int)) (k : GW κ A Inv Q tgt μ lv st) : GW κ A Inv Q pc μ lv st :=
  fun H locs ls cells slots a b c => lv_goto h.1 h.2.1 d ht (k H locs ls cells slots a b c)
theorem g_ldc2 (pc : Nat) {index : Nat} {v : Int64} (h : CxOK κ cc own) (hq : Jvm.Cond.constantLong own index v ∈ lw_all) (d : decode cc pc = .ok (.ldc2_w index, 3)) (k : GW κ A Inv Q (pc + 3) μ lv (.long v :: st)) : GW κ A Inv Q pc μ lv st :=
  fun H locs ls cells slots a b c => lv_ldc2 h.1 h.2.1 h.2.2.1 (h.2.2.2 _ hq) d (k H locs ls cells slots a b c)
theorem g_ldc (pc : Nat) {index : Nat} {v : Int32} (h : CxOK κ cc own) (hq : Jvm.Cond.constant own index v ∈ lw_all) (d : decode cc pc = .ok (.ldc index, 2)) (k : GW κ A Inv Q (pc + 2) μ lv (.int v :: st)) : GW κ A Inv Q pc μ lv st :=
  fun H locs ls cells slots a b c => lv_ldc h.1 h.2.1 h.2.2.1 (h.2.2.2 _ hq) d (k H locs ls cells slots a b c)
theorem g_tabOut (pc tgt : Nat) {dflt lo hi : Int} {offs : Array Int} {len : Nat} {x : Int32} (h : CxOK κ cc own) (d : decode cc pc = .ok (.tableswitch dflt lo hi offs, len)) (hx : x.toInt < lo ∨ hi < x.toInt) (ht : (pc : Int) + dflt = (tgt : Int)) (k : GW κ A Inv Q tgt μ lv st) : GW κ A Inv Q pc μ lv (.int x :: st) :=
  fun H locs ls cells slots a b c => lv_tableOut h.1 h.2.1 d hx ht (k H locs ls cells slots a b c)
theorem g_tabIn (pc tgt : Nat) {dflt lo hi : Int} {offs : Array Int} {len : Nat} {x : Int32} (off : Int) (h : CxOK κ cc own) (d : decode cc pc = .ok (.tableswitch dflt lo hi offs, len)) (h1 : ¬ x.toInt < lo) (h2 : ¬ hi < x.toInt) (ho : offs[(x.toInt - lo).toNat]? = some off) (ht : (pc : Int) + off = (tgt : Int)) (k : GW κ A Inv Q tgt μ lv st) : GW κ A Inv Q pc μ lv (.int x :: st) :=
  fun H locs ls cells slots a b c => lv_tableIn h.1 h.2.1 d h1 h2 ho ht (k H locs ls cells slots a b c)
theorem g_lookup (pc tgt : Nat) {dflt : Int} {ps : Array (Int × Int)} {len : Nat} {x : Int32} (off : Int) (h : CxOK κ cc own) (d : decode cc pc = .ok (.lookupswitch dflt ps, len)) (hp : (ps.toList.zip (ps.toList.drop 1)).all (fun (a, next) => a.1 < next.1) = true) (ho : Op.lookupswitch.offset ps.toList dflt x.toInt = off) (ht : (pc : Int) + off = (tgt : Int)) (k : GW κ A Inv Q tgt μ lv st) : GW κ A Inv Q pc μ lv (.int x :: st) :=
  fun H locs ls cells slots a b c => lv_lookup h.1 h.2.1 d hp ho ht (k H locs ls cells slots a b c)
theorem g_iload_0 (pc : Nat) {r : List (Option Value)} {v : Int32} (h : CxOK κ cc own) (d : decode cc pc = .ok (.iload_n 0, 1)) (k : GW κ A Inv Q (pc + 1) μ (some (.int v) :: r) (.int v :: st)) : GW κ A Inv Q pc μ (some (.int v) :: r) st :=
  fun H locs ls cells slots a b c => lv_iload_n h.1 h.2.1 d rfl (c.2.2.2 0 _ rfl) (k H locs ls cells slots a b c)
theorem g_istore_0 (pc : Nat) {o : Option Value} {r : List (Option Value)} {v : Int32} (h : CxOK κ cc own) (d : decode cc pc = .ok (.istore_n 0, 1)) (k : GW κ A Inv Q (pc + 1) μ (some (.int v) :: r) st) : GW κ A Inv Q pc μ (o :: r) (.int v :: st) :=
  fun H locs ls cells slots a b c => lv_istore_n (i := 0) h.1 h.2.1 d rfl c.has (by have := c.2.2.1; simp only [List.length_cons] at this; omega) rfl (fun ls hl => k H locs ls cells slots a b (lvSet1 hl c.2.2.1 lvPrev_0))
theorem g_lload_0 (pc : Nat) {r : List (Option Value)} {v : Int64} (h : CxOK κ cc own) (d : decode cc pc = .ok (.lload_n 0, 1)) (k : GW κ A Inv Q (pc + 1) μ (some (.long v) :: r) (.long v :: st)) : GW κ A Inv Q pc μ (some (.long v) :: r) st :=
  fun H locs ls cells slots a b c => lv_lload_n h.1 h.2.1 d rfl (c.2.2.2 0 _ rfl) (k H locs ls cells slots a b c)
theorem g_lstore_0 (pc : Nat) {o o2 : Option Value} {r : List (Option Value)} {v : Int64} (h : CxOK κ cc own) (d : decode cc pc = .ok (.lstore_n 0, 1)) (k : GW κ A Inv Q (pc + 1) μ (some (.long v) :: none :: r) st) : GW κ A Inv Q pc μ (o :: o2 :: r) (.long v :: st) :=
  fun H locs ls cells slots a b c => lv_lstore_n (i := 0) h.1 h.2.1 d rfl c.has (by have := c.2.2.1; simp only [List.length_cons] at this; omega) rfl (fun ls hl => k H locs ls cells slots a b (lvSet2 hl c.2.2.1 lvPrev_0))
theorem g_aload_0 (pc : Nat) {r : List (Option Value)} {v : Nat} (h : CxOK κ cc own) (d : decode cc pc = .ok (.aload_n 0, 1)) (k : GW κ A Inv Q (pc + 1) μ (some (.ref v) :: r) (.ref v :: st)) : GW κ A Inv Q pc μ (some (.ref v) :: r) st :=
  fun H locs ls cells slots a b c => lv_aload_n h.1 h.2.1 d rfl (c.2.2.2 0 _ rfl) (k H locs ls cells slots a b c)
theorem g_astore_0 (pc : Nat) {o : Option Value} {r : List (Option Value)} {v : Nat} (h : CxOK κ cc own) (d : decode cc pc = .ok (.astore_n 0, 1)) (k : GW κ A Inv Q (pc + 1) μ (some (.ref v) :: r) st) : GW κ A Inv Q pc μ (o :: r) (.ref v :: st) :=
  fun H locs ls cells slots a b c => lv_astore_n (i := 0) h.1 h.2.1 d rfl c.has (by have := c.2.2.1; simp only [List.length_cons] at this; omega) rfl (fun ls hl => k H locs ls cells slots a b (lvSet1 hl c.2.2.1 lvPrev_0))
theorem g_iinc_0 (pc : Nat) {r : List (Option Value)} {v : Int32} {n : Int} (z : Int32) (hz : v + Int32.ofInt n = z) (h : CxOK κ cc own) (d : decode cc pc = .ok (.iinc 0 n, 3)) (k : GW κ A Inv Q (pc + 3) μ (some (.int z) :: r) st) : GW κ A Inv Q pc μ (some (.int v) :: r) st := by
  intro H locs ls cells slots a b c
  obtain ⟨w, hw⟩ := List.getElem?_of_mem (lvAs_mem (lv := some (.int v) :: r) (i := 0) rfl)
  exact lv_iinc h.1 h.2.1 d c.has hw hz (by have := c.2.2.1; simp only [List.length_cons] at this; omega) rfl (fun ls hl => k H locs ls cells slots a b (lvSet1 hl c.2.2.1 lvPrev_0))
theorem g_iload_1 (pc : Nat) {x0 : Option Value} {r : List (Option Value)} {v : Int32} (h : CxOK κ cc own) (d : decode cc pc = .ok (.iload_n 1, 1)) (k : GW κ A Inv Q (pc + 1) μ (x0 :: some (.int v) :: r) (.int v :: st)) : GW κ A Inv Q pc μ (x0 :: some (.int v) :: r) st :=
  fun H locs ls cells slots a b c => lv_iload_n h.1 h.2.1 d rfl (c.2.2.2 1 _ rfl) (k H locs ls cells slots a b c)
theorem g_istore_1 (pc : Nat) {x0 : Option Value} {o : Option Value} {r : List (Option Value)} {v : Int32} (h : CxOK κ cc own) (hp : lvOk x0 = true) (d : decode cc pc = .ok (.istore_n 1, 1)) (k : GW κ A Inv Q (pc + 1) μ (x0 :: some (.int v) :: r) st) : GW κ A Inv Q pc μ (x0 :: o :: r) (.int v :: st) :=
  fun H locs ls cells slots a b c => lv_istore_n (i := 1) h.1 h.2.1 d rfl c.has (by have := c.2.2.1; simp only [List.length_cons] at this; omega) rfl (fun ls hl => k H locs ls cells slots a b (lvSet1 hl c.2.2.1 (lvPrev_of_1 hp)))
theorem g_lload_1 (pc : Nat) {x0 : Option Value} {r : List (Option Value)} {v : Int64} (h : CxOK κ cc own) (d : decode cc pc = .ok (.lload_n 1, 1)) (k : GW κ A Inv Q (pc + 1) μ (x0 :: some (.long v) :: r) (.long v :: st)) : GW κ A Inv Q pc μ (x0 :: some (.long v) :: r) st :=
  fun H locs ls cells slots a b c => lv_lload_n h.1 h.2.1 d rfl (c.2.2.2 1 _ rfl) (k H locs ls cells slots a b c)
theorem g_lstore_1 (pc : Nat) {x0 : Option Value} {o o2 : Option Value} {r : List (Option Value)} {v : Int64} (h : CxOK κ cc own) (hp : lvOk x0 = true) (d : decode cc pc = .ok (.lstore_n 1, 1)) (k : GW κ A Inv Q (pc + 1) μ (x0 :: some (.long v) :: none :: r) st) : GW κ A Inv Q pc μ (x0 :: o :: o2 :: r) (.long v :: st) :=
  fun H locs ls cells slots a b c => lv_lstore_n (i := 1) h.1 h.2.1 d rfl c.has (by have := c.2.2.1; simp only [List.length_cons] at this; omega) rfl (fun ls hl => k H locs ls cells slots a b (lvSet2 hl c.2.2.1 (lvPrev_of_1 hp)))
theorem g_aload_1 (pc : Nat) {x0 : Option Value} {r : List (Option Value)} {v : Nat} (h : CxOK κ cc own) (d : decode cc pc = .ok (.aload_n 1, 1)) (k : GW κ A Inv Q (pc + 1) μ (x0 :: some (.ref v) :: r) (.ref v :: st)) : GW κ A Inv Q pc μ (x0 :: some (.ref v) :: r) st :=
  fun H locs ls cells slots a b c => lv_aload_n h.1 h.2.1 d rfl (c.2.2.2 1 _ rfl) (k H locs ls cells slots a b c)
theorem g_astore_1 (pc : Nat) {x0 : Option Value} {o : Option Value} {r : List (Option Value)} {v : Nat} (h : CxOK κ cc own) (hp : lvOk x0 = true) (d : decode cc pc = .ok (.astore_n 1, 1)) (k : GW κ A Inv Q (pc + 1) μ (x0 :: some (.ref v) :: r) st) : GW κ A Inv Q pc μ (x0 :: o :: r) (.ref v :: st) :=
  fun H locs ls cells slots a b c => lv_astore_n (i := 1) h.1 h.2.1 d rfl c.has (by have := c.2.2.1; simp only [List.length_cons] at this; omega) rfl (fun ls hl => k H locs ls cells slots a b (lvSet1 hl c.2.2.1 (lvPrev_of_1 hp)))
theorem g_iinc_1 (pc : Nat) {x0 : Option Value} {r : List (Option Value)} {v : Int32} {n : Int} (z : Int32) (hz : v + Int32.ofInt n = z) (h : CxOK κ cc own) (hp : lvOk x0 = true) (d : decode cc pc = .ok (.iinc 1 n, 3)) (k : GW κ A Inv Q (pc + 3) μ (x0 :: some (.int z) :: r) st) : GW κ A Inv Q pc μ (x0 :: some (.int v) :: r) st := by
  intro H locs ls cells slots a b c
  obtain ⟨w, hw⟩ := List.getElem?_of_mem (lvAs_mem (lv := x0 :: some (.int v) :: r) (i := 1) rfl)
  exact lv_iinc h.1 h.2.1 d c.has hw hz (by have := c.2.2.1; simp only [List.length_cons] at this; omega) rfl (fun ls hl => k H locs ls cells slots a b (lvSet1 hl c.2.2.1 (lvPrev_of_1 hp)))
theorem g_iload_2 (pc : Nat) {x0 x1 : Option Value} {r : List (Option Value)} {v : Int32} (h : CxOK κ cc own) (d : decode cc pc = .ok (.iload_n 2, 1)) (k : GW κ A Inv Q (pc + 1) μ (x0 :: x1 :: some (.int v) :: r) (.int v :: st)) : GW κ A Inv Q pc μ (x0 :: x1 :: some (.int v) :: r) st :=
  fun H locs ls cells slots a b c => lv_iload_n h.1 h.2.1 d rfl (c.2.2.2 2 _ rfl) (k H locs ls cells slots a b c)
theorem g_istore_2 (pc : Nat) {x0 x1 : Option Value} {o : Option Value} {r : List (Option Value)} {v : Int32} (h : CxOK κ cc own) (hp : lvOk x1 = true) (d : decode cc pc = .ok (.istore_n 2, 1)) (k : GW κ A Inv Q (pc + 1) μ (x0 :: x1 :: some (.int v) :: r) st) : GW κ A Inv Q pc μ (x0 :: x1 :: o :: r) (.int v :: st) :=
  fun H locs ls cells slots a b c => lv_istore_n (i := 2) h.1 h.2.1 d rfl c.has (by have := c.2.2.1; simp only [List.length_cons] at this; omega) rfl (fun ls hl => k H locs ls cells slots a b (lvSet1 hl c.2.2.1 (lvPrev_of_2 hp)))
theorem g_lload_2 (pc : Nat) {x0 x1 : Option Value} {r : List (Option Value)} {v : Int64} (h : CxOK κ cc own) (d : decode cc pc = .ok (.lload_n 2, 1)) (k : GW κ A Inv Q (pc + 1) μ (x0 :: x1 :: some (.long v) :: r) (.long v :: st)) : GW κ A Inv Q pc μ (x0 :: x1 :: some (.long v) :: r) st :=
  fun H locs ls cells slots a b c => lv_lload_n h.1 h.2.1 d rfl (c.2.2.2 2 _ rfl) (k H locs ls cells slots a b c)
theorem g_lstore_2 (pc : Nat) {x0 x1 : Option Value} {o o2 : Option Value} {r : List (Option Value)} {v : Int64} (h : CxOK κ cc own) (hp : lvOk x1 = true) (d : decode cc pc = .ok (.lstore_n 2, 1)) (k : GW κ A Inv Q (pc + 1) μ (x0 :: x1 :: some (.long v) :: none :: r) st) : GW κ A Inv Q pc μ (x0 :: x1 :: o :: o2 :: r) (.long v :: st) :=
  fun H locs ls cells slots a b c => lv_lstore_n (i := 2) h.1 h.2.1 d rfl c.has (by have := c.2.2.1; simp only [List.length_cons] at this; omega) rfl (fun ls hl => k H locs ls cells slots a b (lvSet2 hl c.2.2.1 (lvPrev_of_2 hp)))
theorem g_aload_2 (pc : Nat) {x0 x1 : Option Value} {r : List (Option Value)} {v : Nat} (h : CxOK κ cc own) (d : decode cc pc = .ok (.aload_n 2, 1)) (k : GW κ A Inv Q (pc + 1) μ (x0 :: x1 :: some (.ref v) :: r) (.ref v :: st)) : GW κ A Inv Q pc μ (x0 :: x1 :: some (.ref v) :: r) st :=
  fun H locs ls cells slots a b c => lv_aload_n h.1 h.2.1 d rfl (c.2.2.2 2 _ rfl) (k H locs ls cells slots a b c)
theorem g_astore_2 (pc : Nat) {x0 x1 : Option Value} {o : Option Value} {r : List (Option Value)} {v : Nat} (h : CxOK κ cc own) (hp : lvOk x1 = true) (d : decode cc pc = .ok (.astore_n 2, 1)) (k : GW κ A Inv Q (pc + 1) μ (x0 :: x1 :: some (.ref v) :: r) st) : GW κ A Inv Q pc μ (x0 :: x1 :: o :: r) (.ref v :: st) :=
  fun H locs ls cells slots a b c => lv_astore_n (i := 2) h.1 h.2.1 d rfl c.has (by have := c.2.2.1; simp only [List.length_cons] at this; omega) rfl (fun ls hl => k H locs ls cells slots a b (lvSet1 hl c.2.2.1 (lvPrev_of_2 hp)))
theorem g_iinc_2 (pc : Nat) {x0 x1 : Option Value} {r : List (Option Value)} {v : Int32} {n : Int} (z : Int32) (hz : v + Int32.ofInt n = z) (h : CxOK κ cc own) (hp : lvOk x1 = true) (d : decode cc pc = .ok (.iinc 2 n, 3)) (k : GW κ A Inv Q (pc + 3) μ (x0 :: x1 :: some (.int z) :: r) st) : GW κ A Inv Q pc μ (x0 :: x1 :: some (.int v) :: r) st := by
  intro H locs ls cells slots a b c
  obtain ⟨w, hw⟩ := List.getElem?_of_mem (lvAs_mem (lv := x0 :: x1 :: some (.int v) :: r) (i := 2) rfl)
  exact lv_iinc h.1 h.2.1 d c.has hw hz (by have := c.2.2.1; simp only [List.length_cons] at this; omega) rfl (fun ls hl => k H locs ls cells slots a b (lvSet1 hl c.2.2.1 (lvPrev_of_2 hp)))
theorem g_iload_3 (pc : Nat) {x0 x1 x2 : Option Value} {r : List (Option Value)} {v : Int32} (h : CxOK κ cc own) (d : decode cc pc = .ok (.iload_n 3, 1)) (k : GW κ A Inv Q (pc + 1) μ (x0 :: x1 :: x2 :: some (.int v) :: r) (.int v :: st)) : GW κ A Inv Q pc μ (x0 :: x1 :: x2 :: some (.int v) :: r) st :=
  fun H locs ls cells slots a b c => lv_iload_n h.1 h.2.1 d rfl (c.2.2.2 3 _ rfl) (k H locs ls cells slots a b c)
theorem g_istore_3 (pc : Nat) {x0 x1 x2 : Option Value} {o : Option Value} {r : List (Option Value)} {v : Int32} (h : CxOK κ cc own) (hp : lvOk x2 = true) (d : decode cc pc = .ok (.istore_n 3, 1)) (k : GW κ A Inv Q (pc + 1) μ (x0 :: x1 :: x2 :: some (.int v) :: r) st) : GW κ A Inv Q pc μ (x0 :: x1 :: x2 :: o :: r) (.int v :: st) :=
  fun H locs ls cells slots a b c => lv_istore_n (i := 3) h.1 h.2.1 d rfl c.has (by have := c.2.2.1; simp only [List.length_cons] at this; omega) rfl (fun ls hl => k H locs ls cells slots a b (lvSet1 hl c.2.2.1 (lvPrev_of_3 hp)))
theorem g_lload_3 (pc : Nat) {x0 x1 x2 : Option Value} {r : List (Option Value)} {v : Int64} (h : CxOK κ cc own) (d : decode cc pc = .ok (.lload_n 3, 1)) (k : GW κ A Inv Q (pc + 1) μ (x0 :: x1 :: x2 :: some (.long v) :: r) (.long v :: st)) : GW κ A Inv Q pc μ (x0 :: x1 :: x2 :: some (.long v) :: r) st :=
  fun H locs ls cells slots a b c => lv_lload_n h.1 h.2.1 d rfl (c.2.2.2 3 _ rfl) (k H locs ls cells slots a b c)
theorem g_lstore_3 (pc : Nat) {x0 x1 x2 : Option Value} {o o2 : Option Value} {r : List (Option Value)} {v : Int64} (h : CxOK κ cc own) (hp : lvOk x2 = true) (d : decode cc pc = .ok (.lstore_n 3, 1)) (k : GW κ A Inv Q (pc + 1) μ (x0 :: x1 :: x2 :: some (.long v) :: none :: r) st) : GW κ A Inv Q pc μ (x0 :: x1 :: x2 :: o :: o2 :: r) (.long v :: st) :=
  fun H locs ls cells slots a b c => lv_lstore_n (i := 3) h.1 h.2.1 d rfl c.has (by have := c.2.2.1; simp only [List.length_cons] at this; omega) rfl (fun ls hl => k H locs ls cells slots a b (lvSet2 hl c.2.2.1 (lvPrev_of_3 hp)))
theorem g_aload_3 (pc : Nat) {x0 x1 x2 : Option Value} {r : List (Option Value)} {v : Nat} (h : CxOK κ cc own) (d : decode cc pc = .ok (.aload_n 3, 1)) (k : GW κ A Inv Q (pc + 1) μ (x0 :: x1 :: x2 :: some (.ref v) :: r) (.ref v :: st)) : GW κ A Inv Q pc μ (x0 :: x1 :: x2 :: some (.ref v) :: r) st :=
  fun H locs ls cells slots a b c => lv_aload_n h.1 h.2.1 d rfl (c.2.2.2 3 _ rfl) (k H locs ls cells slots a b c)
theorem g_astore_3 (pc : Nat) {x0 x1 x2 : Option Value} {o : Option Value} {r : List (Option Value)} {v : Nat} (h : CxOK κ cc own) (hp : lvOk x2 = true) (d : decode cc pc = .ok (.astore_n 3, 1)) (k : GW κ A Inv Q (pc + 1) μ (x0 :: x1 :: x2 :: some (.ref v) :: r) st) : GW κ A Inv Q pc μ (x0 :: x1 :: x2 :: o :: r) (.ref v :: st) :=
  fun H locs ls cells slots a b c => lv_astore_n (i := 3) h.1 h.2.1 d rfl c.has (by have := c.2.2.1; simp only [List.length_cons] at this; omega) rfl (fun ls hl => k H locs ls cells slots a b (lvSet1 hl c.2.2.1 (lvPrev_of_3 hp)))
theorem g_iinc_3 (pc : Nat) {x0 x1 x2 : Option Value} {r : List (Option Value)} {v : Int32} {n : Int} (z : Int32) (hz : v + Int32.ofInt n = z) (h : CxOK κ cc own) (hp : lvOk x2 = true) (d : decode cc pc = .ok (.iinc 3 n, 3)) (k : GW κ A Inv Q (pc + 3) μ (x0 :: x1 :: x2 :: some (.int z) :: r) st) : GW κ A Inv Q pc μ (x0 :: x1 :: x2 :: some (.int v) :: r) st := by
  intro H locs ls cells slots a b c
  obtain ⟨w, hw⟩ := List.getElem?_of_mem (lvAs_mem (lv := x0 :: x1 :: x2 :: some (.int v) :: r) (i := 3) rfl)
  exact lv_iinc h.1 h.2.1 d c.has hw hz (by have := c.2.2.1; simp only [List.length_cons] at this; omega) rfl (fun ls hl => k H locs ls cells slots a b (lvSet1 hl c.2.2.1 (lvPrev_of_3 hp)))
theorem g_iload_4 (pc : Nat) {x0 x1 x2 x3 : Option Value} {r : List (Option Value)} {v : Int32} (h : CxOK κ cc own) (d : decode cc pc = .ok (.iload 4, 2)) (k : GW κ A Inv Q (pc + 2) μ (x0 :: x1 :: x2 :: x3 :: some (.int v) :: r) (.int v :: st)) : GW κ A Inv Q pc μ (x0 :: x1 :: x2 :: x3 :: some (.int v) :: r) st :=
  fun H locs ls cells slots a b c => lv_iload h.1 h.2.1 d (c.2.2.2 4 _ rfl) (k H locs ls cells slots a b c)
theorem g_istore_4 (pc : Nat) {x0 x1 x2 x3 : Option Value} {o : Option Value} {r : List (Option Value)} {v : Int32} (h : CxOK κ cc own) (hp : lvOk x3 = true) (d : decode cc pc = .ok (.istore 4, 2)) (k : GW κ A Inv Q (pc + 2) μ (x0 :: x1 :: x2 :: x3 :: some (.int v) :: r) st) : GW κ A Inv Q pc μ (x0 :: x1 :: x2 :: x3 :: o :: r) (.int v :: st) :=
  fun H locs ls cells slots a b c => lv_istore h.1 h.2.1 d c.has (by have := c.2.2.1; simp only [List.length_cons] at this; omega) rfl (fun ls hl => k H locs ls cells slots a b (lvSet1 hl c.2.2.1 (lvPrev_of_4 hp)))
theorem g_lload_4 (pc : Nat) {x0 x1 x2 x3 : Option Value} {r : List (Option Value)} {v : Int64} (h : CxOK κ cc own) (d : decode cc pc = .ok (.lload 4, 2)) (k : GW κ A Inv Q (pc + 2) μ (x0 :: x1 :: x2 :: x3 :: some (.long v) :: r) (.long v :: st)) : GW κ A Inv Q pc μ (x0 :: x1 :: x2 :: x3 :: some (.long v) :: r) st :=
  fun H locs ls cells slots a b c => lv_lload h.1 h.2.1 d (c.2.2.2 4 _ rfl) (k H locs ls cells slots a b c)
theorem g_lstore_4 (pc : Nat) {x0 x1 x2 x3 : Option Value} {o o2 : Option Value} {r : List (Option Value)} {v : Int64} (h : CxOK κ cc own) (hp : lvOk x3 = true) (d : decode cc pc = .ok (.lstore 4, 2)) (k : GW κ A Inv Q (pc + 2) μ (x0 :: x1 :: x2 :: x3 :: some (.long v) :: none :: r) st) : GW κ A Inv Q pc μ (x0 :: x1 :: x2 :: x3 :: o :: o2 :: r) (.long v :: st) :=
  fun H locs ls cells slots a b c => lv_lstore h.1 h.2.1 d c.has (by have := c.2.2.1; simp only [List.length_cons] at this; omega) rfl (fun ls hl => k H locs ls cells slots a b (lvSet2 hl c.2.2.1 (lvPrev_of_4 hp)))
theorem g_aload_4 (pc : Nat) {x0 x1 x2 x3 : Option Value} {r : List (Option Value)} {v : Nat} (h : CxOK κ cc own) (d : decode cc pc = .ok (.aload 4, 2)) (k : GW κ A Inv Q (pc + 2) μ (x0 :: x1 :: x2 :: x3 :: some (.ref v) :: r) (.ref v :: st)) : GW κ A Inv Q pc μ (x0 :: x1 :: x2 :: x3 :: some (.ref v) :: r) st :=
  fun H locs ls cells slots a b c => lv_aload h.1 h.2.1 d (c.2.2.2 4 _ rfl) (k H locs ls cells slots a b c)
theorem g_astore_4 (pc : Nat) {x0 x1 x2 x3 : Option Value} {o : Option Value} {r : List (Option Value)} {v : Nat} (h : CxOK κ cc own) (hp : lvOk x3 = true) (d : decode cc pc = .ok (.astore 4, 2)) (k : GW κ A Inv Q (pc + 2) μ (x0 :: x1 :: x2 :: x3 :: some (.ref v) :: r) st) : GW κ A Inv Q pc μ (x0 :: x1 :: x2 :: x3 :: o :: r) (.ref v :: st) :=
  fun H locs ls cells slots a b c => lv_astore h.1 h.2.1 d c.has (by have := c.2.2.1; simp only [List.length_cons] at this; omega) rfl (fun ls hl => k H locs ls cells slots a b (lvSet1 hl c.2.2.1 (lvPrev_of_4 hp)))
theorem g_iinc_4 (pc : Nat) {x0 x1 x2 x3 : Option Value} {r : List (Option Value)} {v : Int32} {n : Int} (z : Int32) (hz : v + Int32.ofInt n = z) (h : CxOK κ cc own) (hp : lvOk x3 = true) (d : decode cc pc = .ok (.iinc 4 n, 3)) (k : GW κ A Inv Q (pc + 3) μ (x0 :: x1 :: x2 :: x3 :: some (.int z) :: r) st) : GW κ A Inv Q pc μ (x0 :: x1 :: x2 :: x3 :: some (.int v) :: r) st := by
  intro H locs ls cells slots a b c
  obtain ⟨w, hw⟩ := List.getElem?_of_mem (lvAs_mem (lv := x0 :: x1 :: x2 :: x3 :: some (.int v) :: r) (i := 4) rfl)
  exact lv_iinc h.1 h.2.1 d c.has hw hz (by have := c.2.2.1; simp only [List.length_cons] at this; omega) rfl (fun ls hl => k H locs ls cells slots a b (lvSet1 hl c.2.2.1 (lvPrev_of_4 hp)))
theorem g_iload_5 (pc : Nat) {x0 x1 x2 x3 x4 : Option Value} {r : List (Option Value)} {v : Int32} (h : CxOK κ cc own) (d : decode cc pc = .ok (.iload 5, 2)) (k : GW κ A Inv Q (pc + 2) μ (x0 :: x1 :: x2 :: x3 :: x4 :: some (.int v) :: r) (.int v :: st)) : GW κ A Inv Q pc μ (x0 :: x1 :: x2 :: x3 :: x4 :: some (.int v) :: r) st :=
  fun H locs ls cells slots a b c => lv_iload h.1 h.2.1 d (c.2.2.2 5 _ rfl) (k H locs ls cells slots a b c)
theorem g_istore_5 (pc : Nat) {x0 x1 x2 x3 x4 : Option Value} {o : Option Value} {r : List (Option Value)} {v : Int32} (h : CxOK κ cc own) (hp : lvOk x4 = true) (d : decode cc pc = .ok (.istore 5, 2)) (k : GW κ A Inv Q (pc + 2) μ (x0 :: x1 :: x2 :: x3 :: x4 :: some (.int v) :: r) st) : GW κ A Inv Q pc μ (x0 :: x1 :: x2 :: x3 :: x4 :: o :: r) (.int v :: st) :=
  fun H locs ls cells slots a b c => lv_istore h.1 h.2.1 d c.has (by have := c.2.2.1; simp only [List.length_cons] at this; omega) rfl (fun ls hl => k H locs ls cells slots a b (lvSet1 hl c.2.2.1 (lvPrev_of_5 hp)))
theorem g_lload_5 (pc : Nat) {x0 x1 x2 x3 x4 : Option Value} {r : List (Option Value)} {v : Int64} (h : CxOK κ cc own) (d : decode cc pc = .ok (.lload 5, 2)) (k : GW κ A Inv Q (pc + 2) μ (x0 :: x1 :: x2 :: x3 :: x4 :: some (.long v) :: r) (.long v :: st)) : GW κ A Inv Q pc μ (x0 :: x1 :: x2 :: x3 :: x4 :: some (.long v) :: r) st :=
  fun H locs ls cells slots a b c => lv_lload h.1 h.2.1 d (c.2.2.2 5 _ rfl) (k H locs ls cells slots a b c)
theorem g_lstore_5 (pc : Nat) {x0 x1 x2 x3 x4 : Option Value} {o o2 : Option Value} {r : List (Option Value)} {v : Int64} (h : CxOK κ cc own) (hp : lvOk x4 = true) (d : decode cc pc = .ok (.lstore 5, 2)) (k : GW κ A Inv Q (pc + 2) μ (x0 :: x1 :: x2 :: x3 :: x4 :: some (.long v) :: none :: r) st) : GW κ A Inv Q pc μ (x0 :: x1 :: x2 :: x3 :: x4 :: o :: o2 :: r) (.long v :: st) :=
  fun H locs ls cells slots a b c => lv_lstore h.1 h.2.1 d c.has (by have := c.2.2.1; simp only [List.length_cons] at this; omega) rfl (fun ls hl => k H locs ls cells slots a b (lvSet2 hl c.2.2.1 (lvPrev_of_5 hp)))
theorem g_aload_5 (pc : Nat) {x0 x1 x2 x3 x4 : Option Value} {r : List (Option Value)} {v : Nat} (h : CxOK κ cc own) (d : decode cc pc = .ok (.aload 5, 2)) (k : GW κ A Inv Q (pc + 2) μ (x0 :: x1 :: x2 :: x3 :: x4 :: some (.ref v) :: r) (.ref v :: st)) : GW κ A Inv Q pc μ (x0 :: x1 :: x2 :: x3 :: x4 :: some (.ref v) :: r) st :=
  fun H locs ls cells slots a b c => lv_aload h.1 h.2.1 d (c.2.2.2 5 _ rfl) (k H locs ls cells slots a b c)
theorem g_astore_5 (pc : Nat) {x0 x1 x2 x3 x4 : Option Value} {o : Option Value} {r : List (Option Value)} {v : Nat} (h : CxOK κ cc own) (hp : lvOk x4 = true) (d : decode cc pc = .ok (.astore 5, 2)) (k : GW κ A Inv Q (pc + 2) μ (x0 :: x1 :: x2 :: x3 :: x4 :: some (.ref v) :: r) st) : GW κ A Inv Q pc μ (x0 :: x1 :: x2 :: x3 :: x4 :: o :: r) (.ref v :: st) :=
  fun H locs ls cells slots a b c => lv_astore h.1 h.2.1 d c.has (by have := c.2.2.1; simp only [List.length_cons] at this; omega) rfl (fun ls hl => k H locs ls cells slots a b (lvSet1 hl c.2.2.1 (lvPrev_of_5 hp)))
theorem g_iinc_5 (pc : Nat) {x0 x1 x2 x3 x4 : Option Value} {r : List (Option Value)} {v : Int32} {n : Int} (z : Int32) (hz : v + Int32.ofInt n = z) (h : CxOK κ cc own) (hp : lvOk x4 = true) (d : decode cc pc = .ok (.iinc 5 n, 3)) (k : GW κ A Inv Q (pc + 3) μ (x0 :: x1 :: x2 :: x3 :: x4 :: some (.int z) :: r) st) : GW κ A Inv Q pc μ (x0 :: x1 :: x2 :: x3 :: x4 :: some (.int v) :: r) st := by
  intro H locs ls cells slots a b c
  obtain ⟨w, hw⟩ := List.getElem?_of_mem (lvAs_mem (lv := x0 :: x1 :: x2 :: x3 :: x4 :: some (.int v) :: r) (i := 5) rfl)
  exact lv_iinc h.1 h.2.1 d c.has hw hz (by have := c.2.2.1; simp only [List.length_cons] at this; omega) rfl (fun ls hl => k H locs ls cells slots a b (lvSet1 hl c.2.2.1 (lvPrev_of_5 hp)))
theorem g_iload_6 (pc : Nat) {x0 x1 x2 x3 x4 x5 : Option Value} {r : List (Option Value)} {v : Int32} (h : CxOK κ cc own) (d : decode cc pc = .ok (.iload 6, 2)) (k : GW κ A Inv Q (pc + 2) μ (x0 :: x1 :: x2 :: x3 :: x4 :: x5 :: some (.int v) :: r) (.int v :: st)) : GW κ A Inv Q pc μ (x0 :: x1 :: x2 :: x3 :: x4 :: x5 :: some (.int v) :: r) st :=
  fun H locs ls cells slots a b c => lv_iload h.1 h.2.1 d (c.2.2.2 6 _ rfl) (k H locs ls cells slots a b c)
theorem g_istore_6 (pc : Nat) {x0 x1 x2 x3 x4 x5 : Option Value} {o : Option Value} {r : List (Option Value)} {v : Int32} (h : CxOK κ cc own) (hp : lvOk x5 = true) (d : decode cc pc = .ok (.istore 6, 2)) (k : GW κ A Inv Q (pc + 2) μ (x0 :: x1 :: x2 :: x3 :: x4 :: x5 :: some (.int v) :: r) st) : GW κ A Inv Q pc μ (x0 :: x1 :: x2 :: x3 :: x4 :: x5 :: o :: r) (.int v :: st) :=
  fun H locs ls cells slots a b c => lv_istore h.1 h.2.1 d c.has (by have := c.2.2.1; simp only [List.length_cons] at this; omega) rfl (fun ls hl => k H locs ls cells slots a b (lvSet1 hl c.2.2.1 (lvPrev_of_6 hp)))
theorem g_lload_6 (pc : Nat) {x0 x1 x2 x3 x4 x5 : Option Value} {r : List (Option Value)} {v : Int64} (h : CxOK κ cc own) (d : decode cc pc = .ok (.lload 6, 2)) (k : GW κ A Inv Q (pc + 2) μ (x0 :: x1 :: x2 :: x3 :: x4 :: x5 :: some (.long v) :: r) (.long v :: st)) : GW κ A Inv Q pc μ (x0 :: x1 :: x2 :: x3 :: x4 :: x5 :: some (.long v) :: r) st :=
  fun H locs ls cells slots a b c => lv_lload h.1 h.2.1 d (c.2.2.2 6 _ rfl) (k H locs ls cells slots a b c)
theorem g_lstore_6 (pc : Nat) {x0 x1 x2 x3 x4 x5 : Option Value} {o o2 : Option Value} {r : List (Option Value)} {v : Int64} (h : CxOK κ cc own) (hp : lvOk x5 = true) (d : decode cc pc = .ok (.lstore 6, 2)) (k : GW κ A Inv Q (pc + 2) μ (x0 :: x1 :: x2 :: x3 :: x4 :: x5 :: some (.long v) :: none :: r) st) : GW κ A Inv Q pc μ (x0 :: x1 :: x2 :: x3 :: x4 :: x5 :: o :: o2 :: r) (.long v :: st) :=
  fun H locs ls cells slots a b c => lv_lstore h.1 h.2.1 d c.has (by have := c.2.2.1; simp only [List.length_cons] at this; omega) rfl (fun ls hl => k H locs ls cells slots a b (lvSet2 hl c.2.2.1 (lvPrev_of_6 hp)))
theorem g_aload_6 (pc : Nat) {x0 x1 x2 x3 x4 x5 : Option Value} {r : List (Option Value)} {v : Nat} (h : CxOK κ cc own) (d : decode cc pc = .ok (.aload 6, 2)) (k : GW κ A Inv Q (pc + 2) μ (x0 :: x1 :: x2 :: x3 :: x4 :: x5 :: some (.ref v) :: r) (.ref v :: st)) : GW κ A Inv Q pc μ (x0 :: x1 :: x2 :: x3 :: x4 :: x5 :: some (.ref v) :: r) st :=
  fun H locs ls cells slots a b c => lv_aload h.1 h.2.1 d (c.2.2.2 6 _ rfl) (k H locs ls cells slots a b c)
theorem g_astore_6 (pc : Nat) {x0 x1 x2 x3 x4 x5 : Option Value} {o : Option Value} {r : List (Option Value)} {v : Nat} (h : CxOK κ cc own) (hp : lvOk x5 = true) (d : decode cc pc = .ok (.astore 6, 2)) (k : GW κ A Inv Q (pc + 2) μ (x0 :: x1 :: x2 :: x3 :: x4 :: x5 :: some (.ref v) :: r) st) : GW κ A Inv Q pc μ (x0 :: x1 :: x2 :: x3 :: x4 :: x5 :: o :: r) (.ref v :: st) :=
  fun H locs ls cells slots a b c => lv_astore h.1 h.2.1 d c.has (by have := c.2.2.1; simp only [List.length_cons] at this; omega) rfl (fun ls hl => k H locs ls cells slots a b (lvSet1 hl c.2.2.1 (lvPrev_of_6 hp)))
theorem g_iinc_6 (pc : Nat) {x0 x1 x2 x3 x4 x5 : Option Value} {r : List (Option Value)} {v : Int32} {n : Int} (z : Int32) (hz : v + Int32.ofInt n = z) (h : CxOK κ cc own) (hp : lvOk x5 = true) (d : decode cc pc = .ok (.iinc 6 n, 3)) (k : GW κ A Inv Q (pc + 3) μ (x0 :: x1 :: x2 :: x3 :: x4 :: x5 :: some (.int z) :: r) st) : GW κ A Inv Q pc μ (x0 :: x1 :: x2 :: x3 :: x4 :: x5 :: some (.int v) :: r) st := by
  intro H locs ls cells slots a b c
  obtain ⟨w, hw⟩ := List.getElem?_of_mem (lvAs_mem (lv := x0 :: x1 :: x2 :: x3 :: x4 :: x5 :: some (.int v) :: r) (i := 6) rfl)
  exact lv_iinc h.1 h.2.1 d c.has hw hz (by have := c.2.2.1; simp only [List.length_cons] at this; omega) rfl (fun ls hl => k H locs ls cells slots a b (lvSet1 hl c.2.2.1 (lvPrev_of_6 hp)))
theorem g_iload_7 (pc : Nat) {x0 x1 x2 x3 x4 x5 x6 : Option Value} {r : List (Option Value)} {v : Int32} (h : CxOK κ cc own) (d : decode cc pc = .ok (.iload 7, 2)) (k : GW κ A Inv Q (pc + 2) μ (x0 :: x1 :: x2 :: x3 :: x4 :: x5 :: x6 :: some (.int v) :: r) (.int v :: st)) : GW κ A Inv Q pc μ (x0 :: x1 :: x2 :: x3 :: x4 :: x5 :: x6 :: some (.int v) :: r) st :=
  fun H locs ls cells slots a b c => lv_iload h.1 h.2.1 d (c.2.2.2 7 _ rfl) (k H locs ls cells slots a b c)
theorem g_istore_7 (pc : Nat) {x0 x1 x2 x3 x4 x5 x6 : Option Value} {o : Option Value} {r : List (Option Value)} {v : Int32} (h : CxOK κ cc own) (hp : lvOk x6 = true) (d : decode cc pc = .ok (.istore 7, 2)) (k : GW κ A Inv Q (pc + 2) μ (x0 :: x1 :: x2 :: x3 :: x4 :: x5 :: x6 :: some (.int v) :: r) st) : GW κ A Inv Q pc μ (x0 :: x1 :: x2 :: x3 :: x4 :: x5 :: x6 :: o :: r) (.int v :: st) :=
  fun H locs ls cells slots a b c => lv_istore h.1 h.2.1 d c.has (by have := c.2.2.1; simp only [List.length_cons] at this; omega) rfl (fun ls hl => k H locs ls cells slots a b (lvSet1 hl c.2.2.1 (lvPrev_of_7 hp)))
theorem g_lload_7 (pc : Nat) {x0 x1 x2 x3 x4 x5 x6 : Option Value} {r : List (Option Value)} {v : Int64} (h : CxOK κ cc own) (d : decode cc pc = .ok (.lload 7, 2)) (k : GW κ A Inv Q (pc + 2) μ (x0 :: x1 :: x2 :: x3 :: x4 :: x5 :: x6 :: some (.long v) :: r) (.long v :: st)) : GW κ A Inv Q pc μ (x0 :: x1 :: x2 :: x3 :: x4 :: x5 :: x6 :: some (.long v) :: r) st :=
  fun H locs ls cells slots a b c => lv_lload h.1 h.2.1 d (c.2.2.2 7 _ rfl) (k H locs ls cells slots a b c)
theorem g_lstore_7 (pc : Nat) {x0 x1 x2 x3 x4 x5 x6 : Option Value} {o o2 : Option Value} {r : List (Option Value)} {v : Int64} (h : CxOK κ cc own) (hp : lvOk x6 = true) (d : decode cc pc = .ok (.lstore 7, 2)) (k : GW κ A Inv Q (pc + 2) μ (x0 :: x1 :: x2 :: x3 :: x4 :: x5 :: x6 :: some (.long v) :: none :: r) st) : GW κ A Inv Q pc μ (x0 :: x1 :: x2 :: x3 :: x4 :: x5 :: x6 :: o :: o2 :: r) (.long v :: st) :=
  fun H locs ls cells slots a b c => lv_lstore h.1 h.2.1 d c.has (by have := c.2.2.1; simp only [List.length_cons] at this; omega) rfl (fun ls hl => k H locs ls cells slots a b (lvSet2 hl c.2.2.1 (lvPrev_of_7 hp)))
theorem g_aload_7 (pc : Nat) {x0 x1 x2 x3 x4 x5 x6 : Option Value} {r : List (Option Value)} {v : Nat} (h : CxOK κ cc own) (d : decode cc pc = .ok (.aload 7, 2)) (k : GW κ A Inv Q (pc + 2) μ (x0 :: x1 :: x2 :: x3 :: x4 :: x5 :: x6 :: some (.ref v) :: r) (.ref v :: st)) : GW κ A Inv Q pc μ (x0 :: x1 :: x2 :: x3 :: x4 :: x5 :: x6 :: some (.ref v) :: r) st :=
  fun H locs ls cells slots a b c => lv_aload h.1 h.2.1 d (c.2.2.2 7 _ rfl) (k H locs ls cells slots a b c)
theorem g_astore_7 (pc : Nat) {x0 x1 x2 x3 x4 x5 x6 : Option Value} {o : Option Value} {r : List (Option Value)} {v : Nat} (h : CxOK κ cc own) (hp : lvOk x6 = true) (d : decode cc pc = .ok (.astore 7, 2)) (k : GW κ A Inv Q (pc + 2) μ (x0 :: x1 :: x2 :: x3 :: x4 :: x5 :: x6 :: some (.ref v) :: r) st) : GW κ A Inv Q pc μ (x0 :: x1 :: x2 :: x3 :: x4 :: x5 :: x6 :: o :: r) (.ref v :: st) :=
  fun H locs ls cells slots a b c => lv_astore h.1 h.2.1 d c.has (by have := c.2.2.1; simp only [List.length_cons] at this; omega) rfl (fun ls hl => k H locs ls cells slots a b (lvSet1 hl c.2.2.1 (lvPrev_of_7 hp)))
theorem g_iinc_7 (pc : Nat) {x0 x1 x2 x3 x4 x5 x6 : Option Value} {r : List (Option Value)} {v : Int32} {n : Int} (z : Int32) (hz : v + Int32.ofInt n = z) (h : CxOK κ cc own) (hp : lvOk x6 = true) (d : decode cc pc = .ok (.iinc 7 n, 3)) (k : GW κ A Inv Q (pc + 3) μ (x0 :: x1 :: x2 :: x3 :: x4 :: x5 :: x6 :: some (.int z) :: r) st) : GW κ A Inv Q pc μ (x0 :: x1 :: x2 :: x3 :: x4 :: x5 :: x6 :: some (.int v) :: r) st := by
  intro H locs ls cells slots a b c
  obtain ⟨w, hw⟩ := List.getElem?_of_mem (lvAs_mem (lv := x0 :: x1 :: x2 :: x3 :: x4 :: x5 :: x6 :: some (.int v) :: r) (i := 7) rfl)
  exact lv_iinc h.1 h.2.1 d c.has hw hz (by have := c.2.2.1; simp only [List.length_cons] at this; omega) rfl (fun ls hl => k H locs ls cells slots a b (lvSet1 hl c.2.2.1 (lvPrev_of_7 hp)))
theorem g_iload_8 (pc : Nat) {x0 x1 x2 x3 x4 x5 x6 x7 : Option Value} {r : List (Option Value)} {v : Int32} (h : CxOK κ cc own) (d : decode cc pc = .ok (.iload 8, 2)) (k : GW κ A Inv Q (pc + 2) μ (x0 :: x1 :: x2 :: x3 :: x4 :: x5 :: x6 :: x7 :: some (.int v) :: r) (.int v :: st)) : GW κ A Inv Q pc μ (x0 :: x1 :: x2 :: x3 :: x4 :: x5 :: x6 :: x7 :: some (.int v) :: r) st :=
  fun H locs ls cells slots a b c => lv_iload h.1 h.2.1 d (c.2.2.2 8 _ rfl) (k H locs ls cells slots a b c)
theorem g_istore_8 (pc : Nat) {x0 x1 x2 x3 x4 x5 x6 x7 : Option Value} {o : Option Value} {r : List (Option Value)} {v : Int32} (h : CxOK κ cc own) (hp : lvOk x7 = true) (d : decode cc pc = .ok (.istore 8, 2)) (k : GW κ A Inv Q (pc + 2) μ (x0 :: x1 :: x2 :: x3 :: x4 :: x5 :: x6 :: x7 :: some (.int v) :: r) st) : GW κ A Inv Q pc μ (x0 :: x1 :: x2 :: x3 :: x4 :: x5 :: x6 :: x7 :: o :: r) (.int v :: st) :=
  fun H locs ls cells slots a b c => lv_istore h.1 h.2.1 d c.has (by have := c.2.2.1; simp only [List.length_cons] at this; omega) rfl (fun ls hl => k H locs ls cells slots a b (lvSet1 hl c.2.2.1 (lvPrev_of_8 hp)))
theorem g_lload_8 (pc : Nat) {x0 x1 x2 x3 x4 x5 x6 x7 : Option Value} {r : List (Option Value)} {v : Int64} (h : CxOK κ cc own) (d : decode cc pc = .ok (.lload 8, 2)) (k : GW κ A Inv Q (pc + 2) μ (x0 :: x1 :: x2 :: x3 :: x4 :: x5 :: x6 :: x7 :: some (.long v) :: r) (.long v :: st)) : GW κ A Inv Q pc μ (x0 :: x1 :: x2 :: x3 :: x4 :: x5 :: x6 :: x7 :: some (.long v) :: r) st :=
  fun H locs ls cells slots a b c => lv_lload h.1 h.2.1 d (c.2.2.2 8 _ rfl) (k H locs ls cells slots a b c)
theorem g_lstore_8 (pc : Nat) {x0 x1 x2 x3 x4 x5 x6 x7 : Option Value} {o o2 : Option Value} {r : List (Option Value)} {v : Int64} (h : CxOK κ cc own) (hp : lvOk x7 = true) (d : decode cc pc = .ok (.lstore 8, 2)) (k : GW κ A Inv Q (pc + 2) μ (x0 :: x1 :: x2 :: x3 :: x4 :: x5 :: x6 :: x7 :: some (.long v) :: none :: r) st) : GW κ A Inv Q pc μ (x0 :: x1 :: x2 :: x3 :: x4 :: x5 :: x6 :: x7 :: o :: o2 :: r) (.long v :: st) :=
  fun H locs ls cells slots a b c => lv_lstore h.1 h.2.1 d c.has (by have := c.2.2.1; simp only [List.length_cons] at this; omega) rfl (fun ls hl => k H locs ls cells slots a b (lvSet2 hl c.2.2.1 (lvPrev_of_8 hp)))
theorem g_aload_8 (pc : Nat) {x0 x1 x2 x3 x4 x5 x6 x7 : Option Value} {r : List (Option Value)} {v : Nat} (h : CxOK κ cc own) (d : decode cc pc = .ok (.aload 8, 2)) (k : GW κ A Inv Q (pc + 2) μ (x0 :: x1 :: x2 :: x3 :: x4 :: x5 :: x6 :: x7 :: some (.ref v) :: r) (.ref v :: st)) : GW κ A Inv Q pc μ (x0 :: x1 :: x2 :: x3 :: x4 :: x5 :: x6 :: x7 :: some (.ref v) :: r) st :=
  fun H locs ls cells slots a b c => lv_aload h.1 h.2.1 d (c.2.2.2 8 _ rfl) (k H locs ls cells slots a b c)
theorem g_astore_8 (pc : Nat) {x0 x1 x2 x3 x4 x5 x6 x7 : Option Value} {o : Option Value} {r : List (Option Value)} {v : Nat} (h : CxOK κ cc own) (hp : lvOk x7 = true) (d : decode cc pc = .ok (.astore 8, 2)) (k : GW κ A Inv Q (pc + 2) μ (x0 :: x1 :: x2 :: x3 :: x4 :: x5 :: x6 :: x7 :: some (.ref v) :: r) st) : GW κ A Inv Q pc μ (x0 :: x1 :: x2 :: x3 :: x4 :: x5 :: x6 :: x7 :: o :: r) (.ref v :: st) :=
  fun H locs ls cells slots a b c => lv_astore h.1 h.2.1 d c.has (by have := c.2.2.1; simp only [List.length_cons] at this; omega) rfl (fun ls hl => k H locs ls cells slots a b (lvSet1 hl c.2.2.1 (lvPrev_of_8 hp)))
theorem g_iinc_8 (pc : Nat) {x0 x1 x2 x3 x4 x5 x6 x7 : Option Value} {r : List (Option Value)} {v : Int32} {n : Int} (z : Int32) (hz : v + Int32.ofInt n = z) (h : CxOK κ cc own) (hp : lvOk x7 = true) (d : decode cc pc = .ok (.iinc 8 n, 3)) (k : GW κ A Inv Q (pc + 3) μ (x0 :: x1 :: x2 :: x3 :: x4 :: x5 :: x6 :: x7 :: some (.int z) :: r) st) : GW κ A Inv Q pc μ (x0 :: x1 :: x2 :: x3 :: x4 :: x5 :: x6 :: x7 :: some (.int v) :: r) st := by
  intro H locs ls cells slots a b c
  obtain ⟨w, hw⟩ := List.getElem?_of_mem (lvAs_mem (lv := x0 :: x1 :: x2 :: x3 :: x4 :: x5 :: x6 :: x7 :: some (.int v) :: r) (i := 8) rfl)
  exact lv_iinc h.1 h.2.1 d c.has hw hz (by have := c.2.2.1; simp only [List.length_cons] at this; omega) rfl (fun ls hl => k H locs ls cells slots a b (lvSet1 hl c.2.2.1 (lvPrev_of_8 hp)))
theorem g_iload_9 (pc : Nat) {x0 x1 x2 x3 x4 x5 x6 x7 x8 : Option Value} {r : List (Option Value)} {v : Int32} (h : CxOK κ cc own) (d : decode cc pc = .ok (.iload 9, 2)) (k : GW κ A Inv Q (pc + 2) μ (x0 :: x1 :: x2 :: x3 :: x4 :: x5 :: x6 :: x7 :: x8 :: some (.int v) :: r) (.int v :: st)) : GW κ A Inv Q pc μ (x0 :: x1 :: x2 :: x3 :: x4 :: x5 :: x6 :: x7 :: x8 :: some (.int v) :: r) st :=
  fun H locs ls cells slots a b c => lv_iload h.1 h.2.1 d (c.2.2.2 9 _ rfl) (k H locs ls cells slots a b c)
theorem g_istore_9 (pc : Nat) {x0 x1 x2 x3 x4 x5 x6 x7 x8 : Option Value} {o : Option Value} {r : List (Option Value)} {v : Int32} (h : CxOK κ cc own) (hp : lvOk x8 = true) (d : decode cc pc = .ok (.istore 9, 2)) (k : GW κ A Inv Q (pc + 2) μ (x0 :: x1 :: x2 :: x3 :: x4 :: x5 :: x6 :: x7 :: x8 :: some (.int v) :: r) st) : GW κ A Inv Q pc μ (x0 :: x1 :: x2 :: x3 :: x4 :: x5 :: x6 :: x7 :: x8 :: o :: r) (.int v :: st) :=
  fun H locs ls cells slots a b c => lv_istore h.1 h.2.1 d c.has (by have := c.2.2.1; simp only [List.length_cons] at this; omega) rfl (fun ls hl => k H locs ls cells slots a b (lvSet1 hl c.2.2.1 (lvPrev_of_9 hp)))
theorem g_lload_9 (pc : Nat) {x0 x1 x2 x3 x4 x5 x6 x7 x8 : Option Value} {r : List (Option Value)} {v : Int64} (h : CxOK κ cc own) (d : decode cc pc = .ok (.lload 9, 2)) (k : GW κ A Inv Q (pc + 2) μ (x0 :: x1 :: x2 :: x3 :: x4 :: x5 :: x6 :: x7 :: x8 :: some (.long v) :: r) (.long v :: st)) : GW κ A Inv Q pc μ (x0 :: x1 :: x2 :: x3 :: x4 :: x5 :: x6 :: x7 :: x8 :: some (.long v) :: r) st :=
  fun H locs ls cells slots a b c => lv_lload h.1 h.2.1 d (c.2.2.2 9 _ rfl) (k H locs ls cells slots a b c)
theorem g_lstore_9 (pc : Nat) {x0 x1 x2 x3 x4 x5 x6 x7 x8 : Option Value} {o o2 : Option Value} {r : List (Option Value)} {v : Int64} (h : CxOK κ cc own) (hp : lvOk x8 = true) (d : decode cc pc = .ok (.lstore 9, 2)) (k : GW κ A Inv Q (pc + 2) μ (x0 :: x1 :: x2 :: x3 :: x4 :: x5 :: x6 :: x7 :: x8 :: some (.long v) :: none :: r) st) : GW κ A Inv Q pc μ (x0 :: x1 :: x2 :: x3 :: x4 :: x5 :: x6 :: x7 :: x8 :: o :: o2 :: r) (.long v :: st) :=
  fun H locs ls cells slots a b c => lv_lstore h.1 h.2.1 d c.has (by have := c.2.2.1; simp only [List.length_cons] at this; omega) rfl (fun ls hl => k H locs ls cells slots a b (lvSet2 hl c.2.2.1 (lvPrev_of_9 hp)))
theorem g_aload_9 (pc : Nat) {x0 x1 x2 x3 x4 x5 x6 x7 x8 : Option Value} {r : List (Option Value)} {v : Nat} (h : CxOK κ cc own) (d : decode cc pc = .ok (.aload 9, 2)) (k : GW κ A Inv Q (pc + 2) μ (x0 :: x1 :: x2 :: x3 :: x4 :: x5 :: x6 :: x7 :: x8 :: some (.ref v) :: r) (.ref v :: st)) : GW κ A Inv Q pc μ (x0 :: x1 :: x2 :: x3 :: x4 :: x5 :: x6 :: x7 :: x8 :: some (.ref v) :: r) st :=
  fun H locs ls cells slots a b c => lv_aload h.1 h.2.1 d (c.2.2.2 9 _ rfl) (k H locs ls cells slots a b c)
theorem g_astore_9 (pc : Nat) {x0 x1 x2 x3 x4 x5 x6 x7 x8 : Option Value} {o : Option Value} {r : List (Option Value)} {v : Nat} (h : CxOK κ cc own) (hp : lvOk x8 = true) (d : decode cc pc = .ok (.astore 9, 2)) (k : GW κ A Inv Q (pc + 2) μ (x0 :: x1 :: x2 :: x3 :: x4 :: x5 :: x6 :: x7 :: x8 :: some (.ref v) :: r) st) : GW κ A Inv Q pc μ (x0 :: x1 :: x2 :: x3 :: x4 :: x5 :: x6 :: x7 :: x8 :: o :: r) (.ref v :: st) :=
  fun H locs ls cells slots a b c => lv_astore h.1 h.2.1 d c.has (by have := c.2.2.1; simp only [List.length_cons] at this; omega) rfl (fun ls hl => k H locs ls cells slots a b (lvSet1 hl c.2.2.1 (lvPrev_of_9 hp)))
theorem g_iinc_9 (pc : Nat) {x0 x1 x2 x3 x4 x5 x6 x7 x8 : Option Value} {r : List (Option Value)} {v : Int32} {n : Int} (z : Int32) (hz : v + Int32.ofInt n = z) (h : CxOK κ cc own) (hp : lvOk x8 = true) (d : decode cc pc = .ok (.iinc 9 n, 3)) (k : GW κ A Inv Q (pc + 3) μ (x0 :: x1 :: x2 :: x3 :: x4 :: x5 :: x6 :: x7 :: x8 :: some (.int z) :: r) st) : GW κ A Inv Q pc μ (x0 :: x1 :: x2 :: x3 :: x4 :: x5 :: x6 :: x7 :: x8 :: some (.int v) :: r) st := by
  intro H locs ls cells slots a b c
  obtain ⟨w, hw⟩ := List.getElem?_of_mem (lvAs_mem (lv := x0 :: x1 :: x2 :: x3 :: x4 :: x5 :: x6 :: x7 :: x8 :: some (.int v) :: r) (i := 9) rfl)
  exact lv_iinc h.1 h.2.1 d c.has hw hz (by have := c.2.2.1; simp only [List.length_cons] at this; omega) rfl (fun ls hl => k H locs ls cells slots a b (lvSet1 hl c.2.2.1 (lvPrev_of_9 hp)))
theorem g_iload_10 (pc : Nat) {x0 x1 x2 x3 x4 x5 x6 x7 x8 x9 : Option Value} {r : List (Option Value)} {v : Int32} (h : CxOK κ cc own) (d : decode cc pc = .ok (.iload 10, 2)) (k : GW κ A Inv Q (pc + 2) μ (x0 :: x1 :: x2 :: x3 :: x4 :: x5 :: x6 :: x7 :: x8 :: x9 :: some (.int v) :: r) (.int v :: st)) : GW κ A Inv Q pc μ (x0 :: x1 :: x2 :: x3 :: x4 :: x5 :: x6 :: x7 :: x8 :: x9 :: some (.int v) :: r) st :=
  fun H locs ls cells slots a b c => lv_iload h.1 h.2.1 d (c.2.2.2 10 _ rfl) (k H locs ls cells slots a b c)
theorem g_istore_10 (pc : Nat) {x0 x1 x2 x3 x4 x5 x6 x7 x8 x9 : Option Value} {o : Option Value} {r : List (Option Value)} {v : Int32} (h : CxOK κ cc own) (hp : lvOk x9 = true) (d : decode cc pc = .ok (.istore 10, 2)) (k : GW κ A Inv Q (pc + 2) μ (x0 :: x1 :: x2 :: x3 :: x4 :: x5 :: x6 :: x7 :: x8 :: x9 :: some (.int v) :: r) st) : GW κ A Inv Q pc μ (x0 :: x1 :: x2 :: x3 :: x4 :: x5 :: x6 :: x7 :: x8 :: x9 :: o :: r) (.int v :: st) :=
  fun H locs ls cells slots a b c => lv_istore h.1 h.2.1 d c.has (by have := c.2.2.1; simp only [List.length_cons] at this; omega) rfl (fun ls hl => k H locs ls cells slots a b (lvSet1 hl c.2.2.1 (lvPrev_of_10 hp)))
theorem g_lload_10 (pc : Nat) {x0 x1 x2 x3 x4 x5 x6 x7 x8 x9 : Option Value} {r : List (Option Value)} {v : Int64} (h : CxOK κ cc own) (d : decode cc pc = .ok (.lload 10, 2)) (k : GW κ A Inv Q (pc + 2) μ (x0 :: x1 :: x2 :: x3 :: x4 :: x5 :: x6 :: x7 :: x8 :: x9 :: some (.long v) :: r) (.long v :: st)) : GW κ A Inv Q pc μ (x0 :: x1 :: x2 :: x3 :: x4 :: x5 :: x6 :: x7 :: x8 :: x9 :: some (.long v) :: r) st :=
  fun H locs ls cells slots a b c => lv_lload h.1 h.2.1 d (c.2.2.2 10 _ rfl) (k H locs ls cells slots a b c)
theorem g_lstore_10 (pc : Nat) {x0 x1 x2 x3 x4 x5 x6 x7 x8 x9 : Option Value} {o o2 : Option Value} {r : List (Option Value)} {v : Int64} (h : CxOK κ cc own) (hp : lvOk x9 = true) (d : decode cc pc = .ok (.lstore 10, 2)) (k : GW κ A Inv Q (pc + 2) μ (x0 :: x1 :: x2 :: x3 :: x4 :: x5 :: x6 :: x7 :: x8 :: x9 :: some (.long v) :: none :: r) st) : GW κ A Inv Q pc μ (x0 :: x1 :: x2 :: x3 :: x4 :: x5 :: x6 :: x7 :: x8 :: x9 :: o :: o2 :: r) (.long v :: st) :=
  fun H locs ls cells slots a b c => lv_lstore h.1 h.2.1 d c.has (by have := c.2.2.1; simp only [List.length_cons] at this; omega) rfl (fun ls hl => k H locs ls cells slots a b (lvSet2 hl c.2.2.1 (lvPrev_of_10 hp)))
theorem g_aload_10 (pc : Nat) {x0 x1 x2 x3 x4 x5 x6 x7 x8 x9 : Option Value} {r : List (Option Value)} {v : Nat} (h : CxOK κ cc own) (d : decode cc pc = .ok (.aload 10, 2)) (k : GW κ A Inv Q (pc + 2) μ (x0 :: x1 :: x2 :: x3 :: x4 :: x5 :: x6 :: x7 :: x8 :: x9 :: some (.ref v) :: r) (.ref v :: st)) : GW κ A Inv Q pc μ (x0 :: x1 :: x2 :: x3 :: x4 :: x5 :: x6 :: x7 :: x8 :: x9 :: some (.ref v) :: r) st :=
  fun H locs ls cells slots a b c => lv_aload h.1 h.2.1 d (c.2.2.2 10 _ rfl) (k H locs ls cells slots a b c)
theorem g_astore_10 (pc : Nat) {x0 x1 x2 x3 x4 x5 x6 x7 x8 x9 : Option Value} {o : Option Value} {r : List (Option Value)} {v : Nat} (h : CxOK κ cc own) (hp : lvOk x9 = true) (d : decode cc pc = .ok (.astore 10, 2)) (k : GW κ A Inv Q (pc + 2) μ (x0 :: x1 :: x2 :: x3 :: x4 :: x5 :: x6 :: x7 :: x8 :: x9 :: some (.ref v) :: r) st) : GW κ A Inv Q pc μ (x0 :: x1 :: x2 :: x3 :: x4 :: x5 :: x6 :: x7 :: x8 :: x9 :: o :: r) (.ref v :: st) :=
  fun H locs ls cells slots a b c => lv_astore h.1 h.2.1 d c.has (by have := c.2.2.1; simp only [List.length_cons] at this; omega) rfl (fun ls hl => k H locs ls cells slots a b (lvSet1 hl c.2.2.1 (lvPrev_of_10 hp)))
theorem g_iinc_10 (pc : Nat) {x0 x1 x2 x3 x4 x5 x6 x7 x8 x9 : Option Value} {r : List (Option Value)} {v : Int32} {n : Int} (z : Int32) (hz : v + Int32.ofInt n = z) (h : CxOK κ cc own) (hp : lvOk x9 = true) (d : decode cc pc = .ok (.iinc 10 n, 3)) (k : GW κ A Inv Q (pc + 3) μ (x0 :: x1 :: x2 :: x3 :: x4 :: x5 :: x6 :: x7 :: x8 :: x9 :: some (.int z) :: r) st) : GW κ A Inv Q pc μ (x0 :: x1 :: x2 :: x3 :: x4 :: x5 :: x6 :: x7 :: x8 :: x9 :: some (.int v) :: r) st := by
  intro H locs ls cells slots a b c
  obtain ⟨w, hw⟩ := List.getElem?_of_mem (lvAs_mem (lv := x0 :: x1 :: x2 :: x3 :: x4 :: x5 :: x6 :: x7 :: x8 :: x9 :: some (.int v) :: r) (i := 10) rfl)
  exact lv_iinc h.1 h.2.1 d c.has hw hz (by have := c.2.2.1; simp only [List.length_cons] at this; omega) rfl (fun ls hl => k H locs ls cells slots a b (lvSet1 hl c.2.2.1 (lvPrev_of_10 hp)))
theorem g_iload_11 (pc : Nat) {x0 x1 x2 x3 x4 x5 x6 x7 x8 x9 x10 : Option Value} {r : List (Option Value)} {v : Int32} (h : CxOK κ cc own) (d : decode cc pc = .ok (.iload 11, 2)) (k : GW κ A Inv Q (pc + 2) μ (x0 :: x1 :: x2 :: x3 :: x4 :: x5 :: x6 :: x7 :: x8 :: x9 :: x10 :: some (.int v) :: r) (.int v :: st)) : GW κ A Inv Q pc μ (x0 :: x1 :: x2 :: x3 :: x4 :: x5 :: x6 :: x7 :: x8 :: x9 :: x10 :: some (.int v) :: r) st :=
  fun H locs ls cells slots a b c => lv_iload h.1 h.2.1 d (c.2.2.2 11 _ rfl) (k H locs ls cells slots a b c)
theorem g_istore_11 (pc : Nat) {x0 x1 x2 x3 x4 x5 x6 x7 x8 x9 x10 : Option Value} {o : Option Value} {r : List (Option Value)} {v : Int32} (h : CxOK κ cc own) (hp : lvOk x10 = true) (d : decode cc pc = .ok (.istore 11, 2)) (k : GW κ A Inv Q (pc + 2) μ (x0 :: x1 :: x2 :: x3 :: x4 :: x5 :: x6 :: x7 :: x8 :: x9 :: x10 :: some (.int v) :: r) st) : GW κ A Inv Q pc μ (x0 :: x1 :: x2 :: x3 :: x4 :: x5 :: x6 :: x7 :: x8 :: x9 :: x10 :: o :: r) (.int v :: st) :=
  fun H locs ls cells slots a b c => lv_istore h.1 h.2.1 d c.has (by have := c.2.2.1; simp only [List.length_cons] at this; omega) rfl (fun ls hl => k H locs ls cells slots a b (lvSet1 hl c.2.2.1 (lvPrev_of_11 hp)))
theorem g_lload_11 (pc : Nat) {x0 x1 x2 x3 x4 x5 x6 x7 x8 x9 x10 : Option Value} {r : List (Option Value)} {v : Int64} (h : CxOK κ cc own) (d : decode cc pc = .ok (.lload 11, 2)) (k : GW κ A Inv Q (pc + 2) μ (x0 :: x1 :: x2 :: x3 :: x4 :: x5 :: x6 :: x7 :: x8 :: x9 :: x10 :: some (.long v) :: r) (.long v :: st)) : GW κ A Inv Q pc μ (x0 :: x1 :: x2 :: x3 :: x4 :: x5 :: x6 :: x7 :: x8 :: x9 :: x10 :: some (.long v) :: r) st :=
  fun H locs ls cells slots a b c => lv_lload h.1 h.2.1 d (c.2.2.2 11 _ rfl) (k H locs ls cells slots a b c)
theorem g_lstore_11 (pc : Nat) {x0 x1 x2 x3 x4 x5 x6 x7 x8 x9 x10 : Option Value} {o o2 : Option Value} {r : List (Option Value)} {v : Int64} (h : CxOK κ cc own) (hp : lvOk x10 = true) (d : decode cc pc = .ok (.lstore 11, 2)) (k : GW κ A Inv Q (pc + 2) μ (x0 :: x1 :: x2 :: x3 :: x4 :: x5 :: x6 :: x7 :: x8 :: x9 :: x10 :: some (.long v) :: none :: r) st) : GW κ A Inv Q pc μ (x0 :: x1 :: x2 :: x3 :: x4 :: x5 :: x6 :: x7 :: x8 :: x9 :: x10 :: o :: o2 :: r) (.long v :: st) :=
  fun H locs ls cells slots a b c => lv_lstore h.1 h.2.1 d c.has (by have := c.2.2.1; simp only [List.length_cons] at this; omega) rfl (fun ls hl => k H locs ls cells slots a b (lvSet2 hl c.2.2.1 (lvPrev_of_11 hp)))
theorem g_aload_11 (pc : Nat) {x0 x1 x2 x3 x4 x5 x6 x7 x8 x9 x10 : Option Value} {r : List (Option Value)} {v : Nat} (h : CxOK κ cc own) (d : decode cc pc = .ok (.aload 11, 2)) (k : GW κ A Inv Q (pc + 2) μ (x0 :: x1 :: x2 :: x3 :: x4 :: x5 :: x6 :: x7 :: x8 :: x9 :: x10 :: some (.ref v) :: r) (.ref v :: st)) : GW κ A Inv Q pc μ (x0 :: x1 :: x2 :: x3 :: x4 :: x5 :: x6 :: x7 :: x8 :: x9 :: x10 :: some (.ref v) :: r) st :=
  fun H locs ls cells slots a b c => lv_aload h.1 h.2.1 d (c.2.2.2 11 _ rfl) (k H locs ls cells slots a b c)
theorem g_astore_11 (pc : Nat) {x0 x1 x2 x3 x4 x5 x6 x7 x8 x9 x10 : Option Value} {o : Option Value} {r : List (Option Value)} {v : Nat} (h : CxOK κ cc own) (hp : lvOk x10 = true) (d : decode cc pc = .ok (.astore 11, 2)) (k : GW κ A Inv Q (pc + 2) μ (x0 :: x1 :: x2 :: x3 :: x4 :: x5 :: x6 :: x7 :: x8 :: x9 :: x10 :: some (.ref v) :: r) st) : GW κ A Inv Q pc μ (x0 :: x1 :: x2 :: x3 :: x4 :: x5 :: x6 :: x7 :: x8 :: x9 :: x10 :: o :: r) (.ref v :: st) :=
  fun H locs ls cells slots a b c => lv_astore h.1 h.2.1 d c.has (by have := c.2.2.1; simp only [List.length_cons] at this; omega) rfl (fun ls hl => k H locs ls cells slots a b (lvSet1 hl c.2.2.1 (lvPrev_of_11 hp)))
theorem g_iinc_11 (pc : Nat) {x0 x1 x2 x3 x4 x5 x6 x7 x8 x9 x10 : Option Value} {r : List (Option Value)} {v : Int32} {n : Int} (z : Int32) (hz : v + Int32.ofInt n = z) (h : CxOK κ cc own) (hp : lvOk x10 = true) (d : decode cc pc = .ok (.iinc 11 n, 3)) (k : GW κ A Inv Q (pc + 3) μ (x0 :: x1 :: x2 :: x3 :: x4 :: x5 :: x6 :: x7 :: x8 :: x9 :: x10 :: some (.int z) :: r) st) : GW κ A Inv Q pc μ (x0 :: x1 :: x2 :: x3 :: x4 :: x5 :: x6 :: x7 :: x8 :: x9 :: x10 :: some (.int v) :: r) st := by
  intro H locs ls cells slots a b c
  obtain ⟨w, hw⟩ := List.getElem?_of_mem (lvAs_mem (lv := x0 :: x1 :: x2 :: x3 :: x4 :: x5 :: x6 :: x7 :: x8 :: x9 :: x10 :: some (.int v) :: r) (i := 11) rfl)
  exact lv_iinc h.1 h.2.1 d c.has hw hz (by have := c.2.2.1; simp only [List.length_cons] at this; omega) rfl (fun ls hl => k H locs ls cells slots a b (lvSet1 hl c.2.2.1 (lvPrev_of_11 hp)))
theorem g_iload_12 (pc : Nat) {x0 x1 x2 x3 x4 x5 x6 x7 x8 x9 x10 x11 : Option Value} {r : List (Option Value)} {v : Int32} (h : CxOK κ cc own) (d : decode cc pc = .ok (.iload 12, 2)) (k : GW κ A Inv Q (pc + 2) μ (x0 :: x1 :: x2 :: x3 :: x4 :: x5 :: x6 :: x7 :: x8 :: x9 :: x10 :: x11 :: some (.int v) :: r) (.int v :: st)) : GW κ A Inv Q pc μ (x0 :: x1 :: x2 :: x3 :: x4 :: x5 :: x6 :: x7 :: x8 :: x9 :: x10 :: x11 :: some (.int v) :: r) st :=
  fun H locs ls cells slots a b c => lv_iload h.1 h.2.1 d (c.2.2.2 12 _ rfl) (k H locs ls cells slots a b c)
theorem g_istore_12 (pc : Nat) {x0 x1 x2 x3 x4 x5 x6 x7 x8 x9 x10 x11 : Option Value} {o : Option Value} {r : List (Option Value)} {v : Int32} (h : CxOK κ cc own) (hp : lvOk x11 = true) (d : decode cc pc = .ok (.istore 12, 2)) (k : GW κ A Inv Q (pc + 2) μ (x0 :: x1 :: x2 :: x3 :: x4 :: x5 :: x6 :: x7 :: x8 :: x9 :: x10 :: x11 :: some (.int v) :: r) st) : GW κ A Inv Q pc μ (x0 :: x1 :: x2 :: x3 :: x4 :: x5 :: x6 :: x7 :: x8 :: x9 :: x10 :: x11 :: o :: r) (.int v :: st) :=
  fun H locs ls cells slots a b c => lv_istore h.1 h.2.1 d c.has (by have := c.2.2.1; simp only [List.length_cons] at this; omega) rfl (fun ls hl => k H locs ls cells slots a b (lvSet1 hl c.2.2.1 (lvPrev_of_12 hp)))
theorem g_lload_12 (pc : Nat) {x0 x1 x2 x3 x4 x5 x6 x7 x8 x9 x10 x11 : Option Value} {r : List (Option Value)} {v : Int64} (h : CxOK κ cc own) (d : decode cc pc = .ok (.lload 12, 2)) (k : GW κ A Inv Q (pc + 2) μ (x0 :: x1 :: x2 :: x3 :: x4 :: x5 :: x6 :: x7 :: x8 :: x9 :: x10 :: x11 :: some (.long v) :: r) (.long v :: st)) : GW κ A Inv Q pc μ (x0 :: x1 :: x2 :: x3 :: x4 :: x5 :: x6 :: x7 :: x8 :: x9 :: x10 :: x11 :: some (.long v) :: r) st :=
  fun H locs ls cells slots a b c => lv_lload h.1 h.2.1 d (c.2.2.2 12 _ rfl) (k H locs ls cells slots a b c)
theorem g_lstore_12 (pc : Nat) {x0 x1 x2 x3 x4 x5 x6 x7 x8 x9 x10 x11 : Option Value} {o o2 : Option Value} {r : List (Option Value)} {v : Int64} (h : CxOK κ cc own) (hp : lvOk x11 = true) (d : decode cc pc = .ok (.lstore 12, 2)) (k : GW κ A Inv Q (pc + 2) μ (x0 :: x1 :: x2 :: x3 :: x4 :: x5 :: x6 :: x7 :: x8 :: x9 :: x10 :: x11 :: some (.long v) :: none :: r) st) : GW κ A Inv Q pc μ (x0 :: x1 :: x2 :: x3 :: x4 :: x5 :: x6 :: x7 :: x8 :: x9 :: x10 :: x11 :: o :: o2 :: r) (.long v :: st) :=
  fun H locs ls cells slots a b c => lv_lstore h.1 h.2.1 d c.has (by have := c.2.2.1; simp only [List.length_cons] at this; omega) rfl (fun ls hl => k H locs ls cells slots a b (lvSet2 hl c.2.2.1 (lvPrev_of_12 hp)))
theorem g_aload_12 (pc : Nat) {x0 x1 x2 x3 x4 x5 x6 x7 x8 x9 x10 x11 : Option Value} {r : List (Option Value)} {v : Nat} (h : CxOK κ cc own) (d : decode cc pc = .ok (.aload 12, 2)) (k : GW κ A Inv Q (pc + 2) μ (x0 :: x1 :: x2 :: x3 :: x4 :: x5 :: x6 :: x7 :: x8 :: x9 :: x10 :: x11 :: some (.ref v) :: r) (.ref v :: st)) : GW κ A Inv Q pc μ (x0 :: x1 :: x2 :: x3 :: x4 :: x5 :: x6 :: x7 :: x8 :: x9 :: x10 :: x11 :: some (.ref v) :: r) st :=
  fun H locs ls cells slots a b c => lv_aload h.1 h.2.1 d (c.2.2.2 12 _ rfl) (k H locs ls cells slots a b c)
theorem g_astore_12 (pc : Nat) {x0 x1 x2 x3 x4 x5 x6 x7 x8 x9 x10 x11 : Option Value} {o : Option Value} {r : List (Option Value)} {v : Nat} (h : CxOK κ cc own) (hp : lvOk x11 = true) (d : decode cc pc = .ok (.astore 12, 2)) (k : GW κ A Inv Q (pc + 2) μ (x0 :: x1 :: x2 :: x3 :: x4 :: x5 :: x6 :: x7 :: x8 :: x9 :: x10 :: x11 :: some (.ref v) :: r) st) : GW κ A Inv Q pc μ (x0 :: x1 :: x2 :: x3 :: x4 :: x5 :: x6 :: x7 :: x8 :: x9 :: x10 :: x11 :: o :: r) (.ref v :: st) :=
  fun H locs ls cells slots a b c => lv_astore h.1 h.2.1 d c.has (by have := c.2.2.1; simp only [List.length_cons] at this; omega) rfl (fun ls hl => k H locs ls cells slots a b (lvSet1 hl c.2.2.1 (lvPrev_of_12 hp)))
theorem g_iinc_12 (pc : Nat) {x0 x1 x2 x3 x4 x5 x6 x7 x8 x9 x10 x11 : Option Value} {r : List (Option Value)} {v : Int32} {n : Int} (z : Int32) (hz : v + Int32.ofInt n = z) (h : CxOK κ cc own) (hp : lvOk x11 = true) (d : decode cc pc = .ok (.iinc 12 n, 3)) (k : GW κ A Inv Q (pc + 3) μ (x0 :: x1 :: x2 :: x3 :: x4 :: x5 :: x6 :: x7 :: x8 :: x9 :: x10 :: x11 :: some (.int z) :: r) st) : GW κ A Inv Q pc μ (x0 :: x1 :: x2 :: x3 :: x4 :: x5 :: x6 :: x7 :: x8 :: x9 :: x10 :: x11 :: some (.int v) :: r) st := by
  intro H locs ls cells slots a b c
  obtain ⟨w, hw⟩ := List.getElem?_of_mem (lvAs_mem (lv := x0 :: x1 :: x2 :: x3 :: x4 :: x5 :: x6 :: x7 :: x8 :: x9 :: x10 :: x11 :: some (.int v) :: r) (i := 12) rfl)
  exact lv_iinc h.1 h.2.1 d c.has hw hz (by have := c.2.2.1; simp only [List.length_cons] at this; omega) rfl (fun ls hl => k H locs ls cells slots a b (lvSet1 hl c.2.2.1 (lvPrev_of_12 hp)))
theorem g_iload_13 (pc : Nat) {x0 x1 x2 x3 x4 x5 x6 x7 x8 x9 x10 x11 x12 : Option Value} {r : List (Option Value)} {v : Int32} (h : CxOK κ cc own) (d : decode cc pc = .ok (.iload 13, 2)) (k : GW κ A Inv Q (pc + 2) μ (x0 :: x1 :: x2 :: x3 :: x4 :: x5 :: x6 :: x7 :: x8 :: x9 :: x10 :: x11 :: x12 :: some (.int v) :: r) (.int v :: st)) : GW κ A Inv Q pc μ (x0 :: x1 :: x2 :: x3 :: x4 :: x5 :: x6 :: x7 :: x8 :: x9 :: x10 :: x11 :: x12 :: some (.int v) :: r) st :=
  fun H locs ls cells slots a b c => lv_iload h.1 h.2.1 d (c.2.2.2 13 _ rfl) (k H locs ls cells slots a b c)
theorem g_istore_13 (pc : Nat) {x0 x1 x2 x3 x4 x5 x6 x7 x8 x9 x10 x11 x12 : Option Value} {o : Option Value} {r : List (Option Value)} {v : Int32} (h : CxOK κ cc own) (hp : lvOk x12 = true) (d : decode cc pc = .ok (.istore 13, 2)) (k : GW κ A Inv Q (pc + 2) μ (x0 :: x1 :: x2 :: x3 :: x4 :: x5 :: x6 :: x7 :: x8 :: x9 :: x10 :: x11 :: x12 :: some (.int v) :: r) st) : GW κ A Inv Q pc μ (x0 :: x1 :: x2 :: x3 :: x4 :: x5 :: x6 :: x7 :: x8 :: x9 :: x10 :: x11 :: x12 :: o :: r) (.int v :: st) :=
  fun H locs ls cells slots a b c => lv_istore h.1 h.2.1 d c.has (by have := c.2.2.1; simp only [List.length_cons] at this; omega) rfl (fun ls hl => k H locs ls cells slots a b (lvSet1 hl c.2.2.1 (lvPrev_of_13 hp)))
theorem g_lload_13 (pc : Nat) {x0 x1 x2 x3 x4 x5 x6 x7 x8 x9 x10 x11 x12 : Option Value} {r : List (Option Value)} {v : Int64} (h : CxOK κ cc own) (d : decode cc pc = .ok (.lload 13, 2)) (k : GW κ A Inv Q (pc + 2) μ (x0 :: x1 :: x2 :: x3 :: x4 :: x5 :: x6 :: x7 :: x8 :: x9 :: x10 :: x11 :: x12 :: some (.long v) :: r) (.long v :: st)) : GW κ A Inv Q pc μ (x0 :: x1 :: x2 :: x3 :: x4 :: x5 :: x6 :: x7 :: x8 :: x9 :: x10 :: x11 :: x12 :: some (.long v) :: r) st :=
  fun H locs ls cells slots a b c => lv_lload h.1 h.2.1 d (c.2.2.2 13 _ rfl) (k H locs ls cells slots a b c)
theorem g_lstore_13 (pc : Nat) {x0 x1 x2 x3 x4 x5 x6 x7 x8 x9 x10 x11 x12 : Option Value} {o o2 : Option Value} {r : List (Option Value)} {v : Int64} (h : CxOK κ cc own) (hp : lvOk x12 = true) (d : decode cc pc = .ok (.lstore 13, 2)) (k : GW κ A Inv Q (pc + 2) μ (x0 :: x1 :: x2 :: x3 :: x4 :: x5 :: x6 :: x7 :: x8 :: x9 :: x10 :: x11 :: x12 :: some (.long v) :: none :: r) st) : GW κ A Inv Q pc μ (x0 :: x1 :: x2 :: x3 :: x4 :: x5 :: x6 :: x7 :: x8 :: x9 :: x10 :: x11 :: x12 :: o :: o2 :: r) (.long v :: st) :=
  fun H locs ls cells slots a b c => lv_lstore h.1 h.2.1 d c.has (by have := c.2.2.1; simp only [List.length_cons] at this; omega) rfl (fun ls hl => k H locs ls cells slots a b (lvSet2 hl c.2.2.1 (lvPrev_of_13 hp)))
theorem g_aload_13 (pc : Nat) {x0 x1 x2 x3 x4 x5 x6 x7 x8 x9 x10 x11 x12 : Option Value} {r : List (Option Value)} {v : Nat} (h : CxOK κ cc own) (d : decode cc pc = .ok (.aload 13, 2)) (k : GW κ A Inv Q (pc + 2) μ (x0 :: x1 :: x2 :: x3 :: x4 :: x5 :: x6 :: x7 :: x8 :: x9 :: x10 :: x11 :: x12 :: some (.ref v) :: r) (.ref v :: st)) : GW κ A Inv Q pc μ (x0 :: x1 :: x2 :: x3 :: x4 :: x5 :: x6 :: x7 :: x8 :: x9 :: x10 :: x11 :: x12 :: some (.ref v) :: r) st :=
  fun H locs ls cells slots a b c => lv_aload h.1 h.2.1 d (c.2.2.2 13 _ rfl) (k H locs ls cells slots a b c)
theorem g_astore_13 (pc : Nat) {x0 x1 x2 x3 x4 x5 x6 x7 x8 x9 x10 x11 x12 : Option Value} {o : Option Value} {r : List (Option Value)} {v : Nat} (h : CxOK κ cc own) (hp : lvOk x12 = true) (d : decode cc pc = .ok (.astore 13, 2)) (k : GW κ A Inv Q (pc + 2) μ (x0 :: x1 :: x2 :: x3 :: x4 :: x5 :: x6 :: x7 :: x8 :: x9 :: x10 :: x11 :: x12 :: some (.ref v) :: r) st) : GW κ A Inv Q pc μ (x0 :: x1 :: x2 :: x3 :: x4 :: x5 :: x6 :: x7 :: x8 :: x9 :: x10 :: x11 :: x12 :: o :: r) (.ref v :: st) :=
  fun H locs ls cells slots a b c => lv_astore h.1 h.2.1 d c.has (by have := c.2.2.1; simp only [List.length_cons] at this; omega) rfl (fun ls hl => k H locs ls cells slots a b (lvSet1 hl c.2.2.1 (lvPrev_of_13 hp)))
theorem g_iinc_13 (pc : Nat) {x0 x1 x2 x3 x4 x5 x6 x7 x8 x9 x10 x11 x12 : Option Value} {r : List (Option Value)} {v : Int32} {n : Int} (z : Int32) (hz : v + Int32.ofInt n = z) (h : CxOK κ cc own) (hp : lvOk x12 = true) (d : decode cc pc = .ok (.iinc 13 n, 3)) (k : GW κ A Inv Q (pc + 3) μ (x0 :: x1 :: x2 :: x3 :: x4 :: x5 :: x6 :: x7 :: x8 :: x9 :: x10 :: x11 :: x12 :: some (.int z) :: r) st) : GW κ A Inv Q pc μ (x0 :: x1 :: x2 :: x3 :: x4 :: x5 :: x6 :: x7 :: x8 :: x9 :: x10 :: x11 :: x12 :: some (.int v) :: r) st := by
  intro H locs ls cells slots a b c
  obtain ⟨w, hw⟩ := List.getElem?_of_mem (lvAs_mem (lv := x0 :: x1 :: x2 :: x3 :: x4 :: x5 :: x6 :: x7 :: x8 :: x9 :: x10 :: x11 :: x12 :: some (.int v) :: r) (i := 13) rfl)
  exact lv_iinc h.1 h.2.1 d c.has hw hz (by have := c.2.2.1; simp only [List.length_cons] at this; omega) rfl (fun ls hl => k H locs ls cells slots a b (lvSet1 hl c.2.2.1 (lvPrev_of_13 hp)))
theorem g_iload_14 (pc : Nat) {x0 x1 x2 x3 x4 x5 x6 x7 x8 x9 x10 x11 x12 x13 : Option Value} {r : List (Option Value)} {v : Int32} (h : CxOK κ cc own) (d : decode cc pc = .ok (.iload 14, 2)) (k : GW κ A Inv Q (pc + 2) μ (x0 :: x1 :: x2 :: x3 :: x4 :: x5 :: x6 :: x7 :: x8 :: x9 :: x10 :: x11 :: x12 :: x13 :: some (.int v) :: r) (.int v :: st)) : GW κ A Inv Q pc μ (x0 :: x1 :: x2 :: x3 :: x4 :: x5 :: x6 :: x7 :: x8 :: x9 :: x10 :: x11 :: x12 :: x13 :: some (.int v) :: r) st :=
  fun H locs ls cells slots a b c => lv_iload h.1 h.2.1 d (c.2.2.2 14 _ rfl) (k H locs ls cells slots a b c)
theorem g_istore_14 (pc : Nat) {x0 x1 x2 x3 x4 x5 x6 x7 x8 x9 x10 x11 x12 x13 : Option Value} {o : Option Value} {r : List (Option Value)} {v : Int32} (h : CxOK κ cc own) (hp : lvOk x13 = true) (d : decode cc pc = .ok (.istore 14, 2)) (k : GW κ A Inv Q (pc + 2) μ (x0 :: x1 :: x2 :: x3 :: x4 :: x5 :: x6 :: x7 :: x8 :: x9 :: x10 :: x11 :: x12 :: x13 :: some (.int v) :: r) st) : GW κ A Inv Q pc μ (x0 :: x1 :: x2 :: x3 :: x4 :: x5 :: x6 :: x7 :: x8 :: x9 :: x10 :: x11 :: x12 :: x13 :: o :: r) (.int v :: st) :=
  fun H locs ls cells slots a b c => lv_istore h.1 h.2.1 d c.has (by have := c.2.2.1; simp only [List.length_cons] at this; omega) rfl (fun ls hl => k H locs ls cells slots a b (lvSet1 hl c.2.2.1 (lvPrev_of_14 hp)))
theorem g_lload_14 (pc : Nat) {x0 x1 x2 x3 x4 x5 x6 x7 x8 x9 x10 x11 x12 x13 : Option Value} {r : List (Option Value)} {v : Int64} (h : CxOK κ cc own) (d : decode cc pc = .ok (.lload 14, 2)) (k : GW κ A Inv Q (pc + 2) μ (x0 :: x1 :: x2 :: x3 :: x4 :: x5 :: x6 :: x7 :: x8 :: x9 :: x10 :: x11 :: x12 :: x13 :: some (.long v) :: r) (.long v :: st)) : GW κ A Inv Q pc μ (x0 :: x1 :: x2 :: x3 :: x4 :: x5 :: x6 :: x7 :: x8 :: x9 :: x10 :: x11 :: x12 :: x13 :: some (.long v) :: r) st :=
  fun H locs ls cells slots a b c => lv_lload h.1 h.2.1 d (c.2.2.2 14 _ rfl) (k H locs ls cells slots a b c)
theorem g_lstore_14 (pc : Nat) {x0 x1 x2 x3 x4 x5 x6 x7 x8 x9 x10 x11 x12 x13 : Option Value} {o o2 : Option Value} {r : List (Option Value)} {v : Int64} (h : CxOK κ cc own) (hp : lvOk x13 = true) (d : decode cc pc = .ok (.lstore 14, 2)) (k : GW κ A Inv Q (pc + 2) μ (x0 :: x1 :: x2 :: x3 :: x4 :: x5 :: x6 :: x7 :: x8 :: x9 :: x10 :: x11 :: x12 :: x13 :: some (.long v) :: none :: r) st) : GW κ A Inv Q pc μ (x0 :: x1 :: x2 :: x3 :: x4 :: x5 :: x6 :: x7 :: x8 :: x9 :: x10 :: x11 :: x12 :: x13 :: o :: o2 :: r) (.long v :: st) :=
  fun H locs ls cells slots a b c => lv_lstore h.1 h.2.1 d c.has (by have := c.2.2.1; simp only [List.length_cons] at this; omega) rfl (fun ls hl => k H locs ls cells slots a b (lvSet2 hl c.2.2.1 (lvPrev_of_14 hp)))
theorem g_aload_14 (pc : Nat) {x0 x1 x2 x3 x4 x5 x6 x7 x8 x9 x10 x11 x12 x13 : Option Value} {r : List (Option Value)} {v : Nat} (h : CxOK κ cc own) (d : decode cc pc = .ok (.aload 14, 2)) (k : GW κ A Inv Q (pc + 2) μ (x0 :: x1 :: x2 :: x3 :: x4 :: x5 :: x6 :: x7 :: x8 :: x9 :: x10 :: x11 :: x12 :: x13 :: some (.ref v) :: r) (.ref v :: st)) : GW κ A Inv Q pc μ (x0 :: x1 :: x2 :: x3 :: x4 :: x5 :: x6 :: x7 :: x8 :: x9 :: x10 :: x11 :: x12 :: x13 :: some (.ref v) :: r) st :=
  fun H locs ls cells slots a b c => lv_aload h.1 h.2.1 d (c.2.2.2 14 _ rfl) (k H locs ls cells slots a b c)
theorem g_astore_14 (pc : Nat) {x0 x1 x2 x3 x4 x5 x6 x7 x8 x9 x10 x11 x12 x13 : Option Value} {o : Option Value} {r : List (Option Value)} {v : Nat} (h : CxOK κ cc own) (hp : lvOk x13 = true) (d : decode cc pc = .ok (.astore 14, 2)) (k : GW κ A Inv Q (pc + 2) μ (x0 :: x1 :: x2 :: x3 :: x4 :: x5 :: x6 :: x7 :: x8 :: x9 :: x10 :: x11 :: x12 :: x13 :: some (.ref v) :: r) st) : GW κ A Inv Q pc μ (x0 :: x1 :: x2 :: x3 :: x4 :: x5 :: x6 :: x7 :: x8 :: x9 :: x10 :: x11 :: x12 :: x13 :: o :: r) (.ref v :: st) :=
  fun H locs ls cells slots a b c => lv_astore h.1 h.2.1 d c.has (by have := c.2.2.1; simp only [List.length_cons] at this; omega) rfl (fun ls hl => k H locs ls cells slots a b (lvSet1 hl c.2.2.1 (lvPrev_of_14 hp)))
theorem g_iinc_14 (pc : Nat) {x0 x1 x2 x3 x4 x5 x6 x7 x8 x9 x10 x11 x12 x13 : Option Value} {r : List (Option Value)} {v : Int32} {n : Int} (z : Int32) (hz : v + Int32.ofInt n = z) (h : CxOK κ cc own) (hp : lvOk x13 = true) (d : decode cc pc = .ok (.iinc 14 n, 3)) (k : GW κ A Inv Q (pc + 3) μ (x0 :: x1 :: x2 :: x3 :: x4 :: x5 :: x6 :: x7 :: x8 :: x9 :: x10 :: x11 :: x12 :: x13 :: some (.int z) :: r) st) : GW κ A Inv Q pc μ (x0 :: x1 :: x2 :: x3 :: x4 :: x5 :: x6 :: x7 :: x8 :: x9 :: x10 :: x11 :: x12 :: x13 :: some (.int v) :: r) st := by
  intro H locs ls cells slots a b c
  obtain ⟨w, hw⟩ := List.getElem?_of_mem (lvAs_mem (lv := x0 :: x1 :: x2 :: x3 :: x4 :: x5 :: x6 :: x7 :: x8 :: x9 :: x10 :: x11 :: x12 :: x13 :: some (.int v) :: r) (i := 14) rfl)
  exact lv_iinc h.1 h.2.1 d c.has hw hz (by have := c.2.2.1; simp only [List.length_cons] at this; omega) rfl (fun ls hl => k H locs ls cells slots a b (lvSet1 hl c.2.2.1 (lvPrev_of_14 hp)))
theorem g_iload_15 (pc : Nat) {x0 x1 x2 x3 x4 x5 x6 x7 x8 x9 x10 x11 x12 x13 x14 : Option Value} {r : List (Option Value)} {v : Int32} (h : CxOK κ cc own) (d : decode cc pc = .ok (.iload 15, 2)) (k : GW κ A Inv Q (pc + 2) μ (x0 :: x1 :: x2 :: x3 :: x4 :: x5 :: x6 :: x7 :: x8 :: x9 :: x10 :: x11 :: x12 :: x13 :: x14 :: some (.int v) :: r) (.int v :: st)) : GW κ A Inv Q pc μ (x0 :: x1 :: x2 :: x3 :: x4 :: x5 :: x6 :: x7 :: x8 :: x9 :: x10 :: x11 :: x12 :: x13 :: x14 :: some (.int v) :: r) st :=
  fun H locs ls cells slots a b c => lv_iload h.1 h.2.1 d (c.2.2.2 15 _ rfl) (k H locs ls cells slots a b c)
theorem g_istore_15 (pc : Nat) {x0 x1 x2 x3 x4 x5 x6 x7 x8 x9 x10 x11 x12 x13 x14 : Option Value} {o : Option Value} {r : List (Option Value)} {v : Int32} (h : CxOK κ cc own) (hp : lvOk x14 = true) (d : decode cc pc = .ok (.istore 15, 2)) (k : GW κ A Inv Q (pc + 2) μ (x0 :: x1 :: x2 :: x3 :: x4 :: x5 :: x6 :: x7 :: x8 :: x9 :: x10 :: x11 :: x12 :: x13 :: x14 :: some (.int v) :: r) st) : GW κ A Inv Q pc μ (x0 :: x1 :: x2 :: x3 :: x4 :: x5 :: x6 :: x7 :: x8 :: x9 :: x10 :: x11 :: x12 :: x13 :: x14 :: o :: r) (.int v :: st) :=
  fun H locs ls cells slots a b c => lv_istore h.1 h.2.1 d c.has (by have := c.2.2.1; simp only [List.length_cons] at this; omega) rfl (fun ls hl => k H locs ls cells slots a b (lvSet1 hl c.2.2.1 (lvPrev_of_15 hp)))
theorem g_lload_15 (pc : Nat) {x0 x1 x2 x3 x4 x5 x6 x7 x8 x9 x10 x11 x12 x13 x14 : Option Value} {r : List (Option Value)} {v : Int64} (h : CxOK κ cc own) (d : decode cc pc = .ok (.lload 15, 2)) (k : GW κ A Inv Q (pc + 2) μ (x0 :: x1 :: x2 :: x3 :: x4 :: x5 :: x6 :: x7 :: x8 :: x9 :: x10 :: x11 :: x12 :: x13 :: x14 :: some (.long v) :: r) (.long v :: st)) : GW κ A Inv Q pc μ (x0 :: x1 :: x2 :: x3 :: x4 :: x5 :: x6 :: x7 :: x8 :: x9 :: x10 :: x11 :: x12 :: x13 :: x14 :: some (.long v) :: r) st :=
  fun H locs ls cells slots a b c => lv_lload h.1 h.2.1 d (c.2.2.2 15 _ rfl) (k H locs ls cells slots a b c)
theorem g_lstore_15 (pc : Nat) {x0 x1 x2 x3 x4 x5 x6 x7 x8 x9 x10 x11 x12 x13 x14 : Option Value} {o o2 : Option Value} {r : List (Option Value)} {v : Int64} (h : CxOK κ cc own) (hp : lvOk x14 = true) (d : decode cc pc = .ok (.lstore 15, 2)) (k : GW κ A Inv Q (pc + 2) μ (x0 :: x1 :: x2 :: x3 :: x4 :: x5 :: x6 :: x7 :: x8 :: x9 :: x10 :: x11 :: x12 :: x13 :: x14 :: some (.long v) :: none :: r) st) : GW κ A Inv Q pc μ (x0 :: x1 :: x2 :: x3 :: x4 :: x5 :: x6 :: x7 :: x8 :: x9 :: x10 :: x11 :: x12 :: x13 :: x14 :: o :: o2 :: r) (.long v :: st) :=
  fun H locs ls cells slots a b c => lv_lstore h.1 h.2.1 d c.has (by have := c.2.2.1; simp only [List.length_cons] at this; omega) rfl (fun ls hl => k H locs ls cells slots a b (lvSet2 hl c.2.2.1 (lvPrev_of_15 hp)))
theorem g_aload_15 (pc : Nat) {x0 x1 x2 x3 x4 x5 x6 x7 x8 x9 x10 x11 x12 x13 x14 : Option Value} {r : List (Option Value)} {v : Nat} (h : CxOK κ cc own) (d : decode cc pc = .ok (.aload 15, 2)) (k : GW κ A Inv Q (pc + 2) μ (x0 :: x1 :: x2 :: x3 :: x4 :: x5 :: x6 :: x7 :: x8 :: x9 :: x10 :: x11 :: x12 :: x13 :: x14 :: some (.ref v) :: r) (.ref v :: st)) : GW κ A Inv Q pc μ (x0 :: x1 :: x2 :: x3 :: x4 :: x5 :: x6 :: x7 :: x8 :: x9 :: x10 :: x11 :: x12 :: x13 :: x14 :: some (.ref v) :: r) st :=
  fun H locs ls cells slots a b c => lv_aload h.1 h.2.1 d (c.2.2.2 15 _ rfl) (k H locs ls cells slots a b c)
theorem g_astore_15 (pc : Nat) {x0 x1 x2 x3 x4 x5 x6 x7 x8 x9 x10 x11 x12 x13 x14 : Option Value} {o : Option Value} {r : List (Option Value)} {v : Nat} (h : CxOK κ cc own) (hp : lvOk x14 = true) (d : decode cc pc = .ok (.astore 15, 2)) (k : GW κ A Inv Q (pc + 2) μ (x0 :: x1 :: x2 :: x3 :: x4 :: x5 :: x6 :: x7 :: x8 :: x9 :: x10 :: x11 :: x12 :: x13 :: x14 :: some (.ref v) :: r) st) : GW κ A Inv Q pc μ (x0 :: x1 :: x2 :: x3 :: x4 :: x5 :: x6 :: x7 :: x8 :: x9 :: x10 :: x11 :: x12 :: x13 :: x14 :: o :: r) (.ref v :: st) :=
  fun H locs ls cells slots a b c => lv_astore h.1 h.2.1 d c.has (by have := c.2.2.1; simp only [List.length_cons] at this; omega) rfl (fun ls hl => k H locs ls cells slots a b (lvSet1 hl c.2.2.1 (lvPrev_of_15 hp)))
theorem g_iinc_15 (pc : Nat) {x0 x1 x2 x3 x4 x5 x6 x7 x8 x9 x10 x11 x12 x13 x14 : Option Value} {r : List (Option Value)} {v : Int32} {n : Int} (z : Int32) (hz : v + Int32.ofInt n = z) (h : CxOK κ cc own) (hp : lvOk x14 = true) (d : decode cc pc = .ok (.iinc 15 n, 3)) (k : GW κ A Inv Q (pc + 3) μ (x0 :: x1 :: x2 :: x3 :: x4 :: x5 :: x6 :: x7 :: x8 :: x9 :: x10 :: x11 :: x12 :: x13 :: x14 :: some (.int z) :: r) st) : GW κ A Inv Q pc μ (x0 :: x1 :: x2 :: x3 :: x4 :: x5 :: x6 :: x7 :: x8 :: x9 :: x10 :: x11 :: x12 :: x13 :: x14 :: some (.int v) :: r) st := by
  intro H locs ls cells slots a b c
  obtain ⟨w, hw⟩ := List.getElem?_of_mem (lvAs_mem (lv := x0 :: x1 :: x2 :: x3 :: x4 :: x5 :: x6 :: x7 :: x8 :: x9 :: x10 :: x11 :: x12 :: x13 :: x14 :: some (.int v) :: r) (i := 15) rfl)
  exact lv_iinc h.1 h.2.1 d c.has hw hz (by have := c.2.2.1; simp only [List.length_cons] at this; omega) rfl (fun ls hl => k H locs ls cells slots a b (lvSet1 hl c.2.2.1 (lvPrev_of_15 hp)))
end FW
