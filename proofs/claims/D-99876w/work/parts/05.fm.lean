/-! THE KEYED MEMORY: objects and arrays of a fixed shape have keys; a state says what the keys' cells hold; addresses are hidden in S, the shape's tables in T -/
abbrev FS : Type := (Nat → Nat → Int32) × (Nat → Nat → Int64) × (Nat → Nat → Int32) × (Nat → Nat → Int64) × (Nat → Nat → Nat) × (Nat → Nat → Value)
def fI (σ : FS) : Nat → Nat → Int32 := σ.1
def fL (σ : FS) : Nat → Nat → Int64 := σ.2.1
def fA (σ : FS) : Nat → Nat → Int32 := σ.2.2.1
def fB (σ : FS) : Nat → Nat → Int64 := σ.2.2.2.1
def fP (σ : FS) : Nat → Nat → Nat := σ.2.2.2.2.1
def fR (σ : FS) : Nat → Nat → Value := σ.2.2.2.2.2
def up2 {α : Type} (f : Nat → Nat → α) (a b : Nat) (v : α) : Nat → Nat → α := fun x y => if x = a ∧ y = b then v else f x y
def sI (σ : FS) (o k : Nat) (v : Int32) : FS := (up2 σ.1 o k v, σ.2)
def sL (σ : FS) (o k : Nat) (v : Int64) : FS := (σ.1, up2 σ.2.1 o k v, σ.2.2)
def sA (σ : FS) (o k : Nat) (v : Int32) : FS := (σ.1, σ.2.1, up2 σ.2.2.1 o k v, σ.2.2.2)
def sB (σ : FS) (o k : Nat) (v : Int64) : FS := (σ.1, σ.2.1, σ.2.2.1, up2 σ.2.2.2.1 o k v, σ.2.2.2.2)
def sP (σ : FS) (o k : Nat) (v : Nat) : FS := (σ.1, σ.2.1, σ.2.2.1, σ.2.2.2.1, up2 σ.2.2.2.2.1 o k v, σ.2.2.2.2.2)
def sR (σ : FS) (o k : Nat) (v : Value) : FS := (σ.1, σ.2.1, σ.2.2.1, σ.2.2.2.1, σ.2.2.2.2.1, up2 σ.2.2.2.2.2 o k v)
theorem up2_eq {α : Type} (f : Nat → Nat → α) (a b : Nat) (v : α) : up2 f a b v a b = v := by simp [up2]
theorem up2_ne {α : Type} {f : Nat → Nat → α} {a b x y : Nat} {v : α} (h : ¬ (x = a ∧ y = b)) : up2 f a b v x y = f x y := by simp [up2, h]
/-- the tables: class of an object, kind of a class's field (0 int, 1 long, 2 array, 3 object, 4 any), target key of a field, kind and length of an array (0 none, 1 int, 2 byte, 3 char, 4 long, 5 boolean, 6 of objects, 7 and above of arrays) -/
abbrev Tab : Type := (Nat → Nat) × (Nat → Nat → Nat) × (Nat → Nat → Nat) × (Nat → Nat × Nat)
/-- the addresses: classes' numbers and slots, objects, arrays, the array classes by their kind -/
abbrev Adr : Type := va_G × (Nat → Nat) × (Nat → Nat) × (Nat → ClassId)
def fval (T : Tab) (S : Adr) (σ : FS) (o k : Nat) : Value := match T.2.1 (T.1 o) k with
  | 0 => .int (fI σ o k)
  | 1 => .long (fL σ o k)
  | 2 => .ref (S.2.2.1 (T.2.2.1 o k))
  | 3 => .ref (S.2.1 (T.2.2.1 o k))
  | _ => fR σ o k
def acont (T : Tab) (S : Adr) (σ : FS) (a : Nat) : vp_A := match (T.2.2.2 a).1 with
  | 4 => ((T.2.2.2 a).2, .inr (.inl (fB σ a)))
  | 6 => ((T.2.2.2 a).2, .inr (.inr (.inr (.inr (fun i => some (S.2.1 (fP σ a i)))))))
  | 7 => ((T.2.2.2 a).2, .inr (.inr (.inr (.inr (fun i => some (S.2.2.1 (fP σ a i)))))))
  | 8 => ((T.2.2.2 a).2, .inr (.inr (.inr (.inr (fun i => some (S.2.2.1 (fP σ a i)))))))
  | _ => ((T.2.2.2 a).2, .inl (fA σ a))
def FM (T : Tab) (S : Adr) (cl : List vw_C) (σ : FS) (H : Heap) : Prop :=
  (∀ (o : Nat) (r : vw_C), cl[T.1 o]? = some r → t_OB (S.2.1 o) (S.1.1 (T.1 o)) r.2.2 (S.1.2 (T.1 o)) H (fval T S σ o)) ∧
  ∀ a : Nat, (T.2.2.2 a).1 ≠ 0 → H[S.2.2.1 a]? = some (vp_cell (S.2.2.2 (T.2.2.2 a).1) (acont T S σ a))
/-- addresses are apart -/
def FD (T : Tab) (S : Adr) (cl : List vw_C) (A : Nat → Prop) : Prop :=
  (∀ (o o' : Nat), T.1 o < cl.length → T.1 o' < cl.length → S.2.1 o = S.2.1 o' → o = o') ∧ (∀ a a' : Nat, (T.2.2.2 a).1 ≠ 0 → (T.2.2.2 a').1 ≠ 0 → S.2.2.1 a = S.2.2.1 a' → a = a') ∧
  (∀ o a : Nat, T.1 o < cl.length → (T.2.2.2 a).1 ≠ 0 → S.2.1 o ≠ S.2.2.1 a) ∧ (∀ o : Nat, T.1 o < cl.length → A (S.2.1 o)) ∧ ∀ a : Nat, (T.2.2.2 a).1 ≠ 0 → A (S.2.2.1 a)
/-- the cells of the shape -/
def fCell (T : Tab) (S : Adr) (cl : List vw_C) : Nat → Prop := fun q => (∃ o, T.1 o < cl.length ∧ q = S.2.1 o) ∨ ∃ a, (T.2.2.2 a).1 ≠ 0 ∧ q = S.2.2.1 a
theorem FM.kept {T : Tab} {S : Adr} {cl : List vw_C} {σ : FS} {H H1 : Heap} (h : FM T S cl σ H) (hk : ∀ q, fCell T S cl q → H1[q]? = H[q]?) : FM T S cl σ H1 :=
  ⟨fun o r hr => (h.1 o r hr).kept (hk _ (Or.inl ⟨o, (List.getElem?_eq_some_iff.mp hr).1, rfl⟩)), fun a ha => by rw [hk _ (Or.inr ⟨a, ha, rfl⟩)]; exact h.2 a ha⟩
section FMR
variable {p : Program} {l : Launch} {e : Env} {R : Room} {s : State} {m : MethodId} {args : Array Value} {below : List Frame} {meth : Method} {c : Code} {H : Heap} {locs : List Loc} {cells slots : Nat} {Q : State → Prop}
variable {cc : ByteArray} {pc : Nat} {ls : Array Slot} {rest : List Value} {D : va_G} {cl : List vw_C} {A : Nat → Prop} {a : Nat} {tys : List (ClassId × FieldType)} {H0 : Heap}
theorem ob_get (hexec : p.tables.exec = Jvm.exec) (hb : c.code = cc) {own ref C : String} {T : u_T} {N index : Nat} {Ts : List Cond} {cC : ClassId} {iS : Nat → Nat} {V : Nat → Value} (hts : ∀ w ∈ Ts, w.before args s = true) (hin : ∀ w ∈ u_ws C T N, w ∈ Ts) (hown : s.vm.findClass own = some m.cls) (hKn : u_Kn s C T N cC iS) (hO : t_OB a cC N iS H V) (k : Nat) (hk : k < N) (hlink : (Cond.fieldLink own index ref (T k).2.1 (T k).2.2.1).before args s = true) (hsame : ∀ x, s.fieldFound? (T k).1 (T k).2.1 (T k).2.2.1 = some x → s.fieldFound? ref (T k).2.1 (T k).2.2.1 = some x) (hdg : decode cc pc = .ok (.getfield index, 3))
    (kk : W p l e R s m args below meth c H locs cells slots Q (F0 m (pc + 3) ls (V k :: rest))) : W p l e R s m args below meth c H locs cells slots Q (F0 m pc ls (.ref a :: rest)) := by
  obtain ⟨cell, q1, q2, q3, q4⟩ := hO
  obtain ⟨hS, hfc, kC, hkC, hkind⟩ := hKn
  obtain ⟨cf, kf, fi, f, hi, hsl⟩ := hS k hk
  refine W.getf hexec hb hown hlink (hsame _ hi) (u_facts hfc hkC (u_lays hts hin hk) hi).1 q1 (by rw [q3]; exact fun h => by cases h) (v := V k) ?_ rfl rfl hdg kk
  rw [hsl, q4 k hk]
theorem ob_apart {C : String} {T : u_T} {N : Nat} {Ts : List Cond} {cC : ClassId} {iS : Nat → Nat} (hts : ∀ w ∈ Ts, w.before args s = true) (hin : ∀ w ∈ u_ws C T N, w ∈ Ts) (ty : Nat → FieldType) (hty : ∀ k, k < N → parseFieldDescriptor (T k).2.2.1 = some (ty k)) (hnm : ∀ a, a < N → ∀ b, b < N → a ≠ b → (T a).2.1 ≠ (T b).2.1) (hKn : u_Kn s C T N cC iS) : ∀ x y, x < N → y < N → x ≠ y → iS x ≠ iS y := by
  intro x y hx hy hne
  obtain ⟨hS, -⟩ := hKn
  obtain ⟨_, _, _, fa, hia, ea⟩ := hS x hx
  obtain ⟨_, _, _, fb, hib, eb⟩ := hS y hy
  rw [← ea, ← eb]
  refine u_apart (u_lays hts hin hx) (u_lays hts hin hy) hia hib ?_
  rw [(State.fieldFound?_type hia (hty x hx)).1, (State.fieldFound?_type hib (hty y hy)).1]
  exact hnm x hx y hy hne
theorem ob_put (hexec : p.tables.exec = Jvm.exec) (hb : c.code = cc) {own ref C : String} {T : u_T} {N index : Nat} {Ts : List Cond} {cC : ClassId} {iS : Nat → Nat} {V : Nat → Value} (hts : ∀ w ∈ Ts, w.before args s = true) (hin : ∀ w ∈ u_ws C T N, w ∈ Ts) (ty0 : Nat → FieldType) (hty : ∀ k, k < N → parseFieldDescriptor (T k).2.2.1 = some (ty0 k)) (hnm : ∀ a, a < N → ∀ b, b < N → a ≠ b → (T a).2.1 ≠ (T b).2.1) (hown : s.vm.findClass own = some m.cls) (hKn : u_Kn s C T N cC iS) (hO : t_OB a cC N iS H V) (hS0 : va_S A H0 H locs) (hAa : A a) (k : Nat) (hk : k < N) (hlink : (Cond.fieldLink own index ref (T k).2.1 (T k).2.2.1).before args s = true) (hsame : ∀ x, s.fieldFound? (T k).1 (T k).2.1 (T k).2.2.1 = some x → s.fieldFound? ref (T k).2.1 (T k).2.2.1 = some x) (hfin : (T k).2.2.2 = false) {ty : FieldType} {v : Value} (hd : ty0 k = ty) (hn : narrow ty v = v) (hfit : fits ty v = true)
    (hdg : decode cc pc = .ok (.putfield index, 3)) (kk : ∀ (H1 : Heap) (locs1 : List Loc), t_OB a cC N iS H1 (updV V k v) → H1.size = H.size → (∀ q, q ≠ a → H1[q]? = H[q]?) → va_S A H0 H1 locs1 → W p l e R s m args below meth c H1 locs1 cells slots Q (F0 m (pc + 3) ls rest)) : W p l e R s m args below meth c H locs cells slots Q (F0 m pc ls (v :: .ref a :: rest)) := by
  have hap := ob_apart hts hin ty0 hty hnm hKn
  obtain ⟨cell, q1, q2, q3, q4⟩ := hO
  obtain ⟨hS, hfc, kC, hkC, hkind⟩ := hKn
  obtain ⟨cf, kf, fi, f, hi, hsl⟩ := hS k hk
  have hlay := hts _ (hin _ (u_in_lay hk))
  unfold u_lay at hlay
  rw [if_neg (by rw [hfin]; decide)] at hlay
  have hst := (u_facts hfc hkC (u_lays hts hin hk) hi).1
  have h6 := u_store hfc hkC hkind hlay hi (by rw [hty k hk, hd]) hn hfit
  refine W.putK hexec hb (f := f) ⟨hown, hlink, ⟨_, _, _, hsame _ hi⟩, hst⟩ (by rw [q2]; exact h6) q1 q3 (by rw [hsl]; exact k2_hasslot (q4 k hk)) rfl rfl hdg fun H' e1 e2 e3 => ?_
  rw [hsl] at e1 ⊢
  exact kk H' _ ⟨_, e1, q2, q3, t_set q4 hap hk v⟩ e2 e3 (hS0.put e2 e3 hAa)
end FMR
theorem FM.putV {T : Tab} {S : Adr} {cl : List vw_C} {σ σ' : FS} {H H1 : Heap} {A : Nat → Prop} {o k : Nat} {v : Value} {r : vw_C} (h : FM T S cl σ H) (hD : FD T S cl A) (hr : cl[T.1 o]? = some r) (hO : t_OB (S.2.1 o) (S.1.1 (T.1 o)) r.2.2 (S.1.2 (T.1 o)) H1 (updV (fval T S σ o) k v)) (hq : ∀ q, q ≠ S.2.1 o → H1[q]? = H[q]?)
    (hv : ∀ o' k', fval T S σ' o' k' = if o' = o ∧ k' = k then v else fval T S σ o' k') (ha : ∀ a, acont T S σ' a = acont T S σ a) : FM T S cl σ' H1 := by
  have hol : T.1 o < cl.length := (List.getElem?_eq_some_iff.mp hr).1
  refine ⟨fun o' r' hr' => ?_, fun a hz => ?_⟩
  · by_cases e : o' = o
    · subst e
      cases hr.symm.trans hr'
      refine hO.to (fun j _ => ?_)
      rw [hv]
      by_cases ej : j = k
      · subst ej; simp [updV]
      · simp [updV, ej]
    · have hol' : T.1 o' < cl.length := (List.getElem?_eq_some_iff.mp hr').1
      refine ((h.1 o' r' hr').kept (hq _ (fun z => e (hD.1 o' o hol' hol z)))).to (fun j _ => ?_)
      rw [hv]; simp [e]
  · rw [ha, hq _ (fun z => hD.2.2.1 o a hol hz z.symm)]
    exact h.2 a hz
theorem FM.putC {T : Tab} {S : Adr} {cl : List vw_C} {σ σ' : FS} {H H1 : Heap} {A : Nat → Prop} {a : Nat} (h : FM T S cl σ H) (hD : FD T S cl A) (hz : (T.2.2.2 a).1 ≠ 0) (hO : H1[S.2.2.1 a]? = some (vp_cell (S.2.2.2 (T.2.2.2 a).1) (acont T S σ' a))) (hq : ∀ q, q ≠ S.2.2.1 a → H1[q]? = H[q]?)
    (hv : ∀ o' k', fval T S σ' o' k' = fval T S σ o' k') (ha : ∀ a', a' ≠ a → acont T S σ' a' = acont T S σ a') : FM T S cl σ' H1 := by
  refine ⟨fun o' r' hr' => ?_, fun a' hz' => ?_⟩
  · have hol' : T.1 o' < cl.length := (List.getElem?_eq_some_iff.mp hr').1
    refine ((h.1 o' r' hr').kept (hq _ (hD.2.2.1 o' a hol' hz))).to (fun j _ => ?_)
    rw [hv]
  · by_cases e : a' = a
    · subst e; exact hO
    · rw [ha a' e, hq _ (fun z => e (hD.2.1 a' a hz' hz z))]
      exact h.2 a' hz'
theorem fval_sI {T : Tab} {S : Adr} {σ : FS} {o k : Nat} {v : Int32} (hk : T.2.1 (T.1 o) k = 0) (o' k' : Nat) : fval T S (sI σ o k v) o' k' = if o' = o ∧ k' = k then .int v else fval T S σ o' k' := by
  by_cases e : o' = o ∧ k' = k
  · obtain ⟨rfl, rfl⟩ := e
    simp [fval, hk, fI, sI, up2]
  · rw [if_neg e]
    unfold fval
    split <;> simp [fI, fL, fR, sI, up2_ne e]
theorem fval_sL {T : Tab} {S : Adr} {σ : FS} {o k : Nat} {v : Int64} (hk : T.2.1 (T.1 o) k = 1) (o' k' : Nat) : fval T S (sL σ o k v) o' k' = if o' = o ∧ k' = k then .long v else fval T S σ o' k' := by
  by_cases e : o' = o ∧ k' = k
  · obtain ⟨rfl, rfl⟩ := e
    simp [fval, hk, fL, sL, up2]
  · rw [if_neg e]
    unfold fval
    split <;> simp [fI, fL, fR, sL, up2_ne e]
theorem fval_sR {T : Tab} {S : Adr} {σ : FS} {o k : Nat} {v : Value} (hk : T.2.1 (T.1 o) k = 4) (o' k' : Nat) : fval T S (sR σ o k v) o' k' = if o' = o ∧ k' = k then v else fval T S σ o' k' := by
  by_cases e : o' = o ∧ k' = k
  · obtain ⟨rfl, rfl⟩ := e
    simp [fval, hk, fR, sR, up2]
  · rw [if_neg e]
    unfold fval
    split <;> simp [fI, fL, fR, sR, up2_ne e]
theorem acont_sA {T : Tab} {S : Adr} {σ : FS} {a i : Nat} {v : Int32} (a' : Nat) (e : a' ≠ a) : acont T S (sA σ a i v) a' = acont T S σ a' := by
  have h1 : fA (sA σ a i v) a' = fA σ a' := by funext j; simp [fA, sA, up2, e]
  unfold acont
  rw [h1]; rfl
theorem acont_sB {T : Tab} {S : Adr} {σ : FS} {a i : Nat} {v : Int64} (a' : Nat) (e : a' ≠ a) : acont T S (sB σ a i v) a' = acont T S σ a' := by
  have h1 : fB (sB σ a i v) a' = fB σ a' := by funext j; simp [fB, sB, up2, e]
  unfold acont
  rw [h1]; rfl
theorem acont_sP {T : Tab} {S : Adr} {σ : FS} {a i : Nat} {v : Nat} (a' : Nat) (e : a' ≠ a) : acont T S (sP σ a i v) a' = acont T S σ a' := by
  have h1 : fP (sP σ a i v) a' = fP σ a' := by funext j; simp [fP, sP, up2, e]
  unfold acont
  rw [h1]; rfl
theorem fA_upd (σ : FS) (a i : Nat) (v : Int32) : fA (sA σ a i v) a = upd (fA σ a) i v := by
  funext j
  by_cases e : j = i <;> simp [fA, sA, up2, upd, e]
theorem fB_upd (σ : FS) (a i : Nat) (v : Int64) : fB (sB σ a i v) a = vp_updL (fB σ a) i v := by
  funext j
  by_cases e : j = i <;> simp [fB, sB, up2, vp_updL, e]
