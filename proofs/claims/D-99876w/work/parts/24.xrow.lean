/-! THE SYSTEM's ROWS -/
def nwk (w : Cond) : Bool := match w with
  | .fieldLinkNest .. => true
  | .methodLinkNest .. => true
  | .castable .. => true
  | .declares .. => true
  | .privateMethod .. => true
  | _ => false
/-- the words of the tables that don't ride in the lists -/
def NW (U : State) : Prop := ∀ w ∈ lw_tbl, nwk w = true → va_Nw w U
theorem NW.warm {s U : State} (hW : s.WarmedH U.vm) (h : NW s) : NW U := by
  intro w hw hk
  cases w <;> first
    | exact va_Nw.warmF hW (h _ hw rfl)
    | exact va_Nw.warmM hW (h _ hw rfl)
    | exact va_Nw.warmC hW (h _ hw rfl)
    | exact va_Nw.warmD hW (h _ hw rfl)
    | exact Cond.privateMethod_warm hW (h _ hw rfl)
    | (simp [nwk] at hk)
theorem NW.same {s U : State} (hv : s.vm = U.vm) (h : NW s) : NW U := by
  intro w hw hk
  cases w <;> first
    | exact va_Nw.same rfl hv (h _ hw rfl)
    | (simp [nwk] at hk)
def XE (U : State) : Prop := va_Fw "java/util/ArrayList" ⟨"java/util/List", "size", "()I"⟩ ⟨"java/util/ArrayList", "size", "()I"⟩ U ∧ va_Fw "java/util/ArrayList" ⟨"java/util/List", "get", "(I)Ljava/lang/Object;"⟩ ⟨"java/util/ArrayList", "get", "(I)Ljava/lang/Object;"⟩ U ∧ va_Fw "java/util/ArrayList" ⟨"java/util/List", "add", "(Ljava/lang/Object;)Z"⟩ ⟨"java/util/ArrayList", "add", "(Ljava/lang/Object;)Z"⟩ U ∧ va_Fw "java/util/ArrayList" ⟨"java/util/List", "isEmpty", "()Z"⟩ ⟨"java/util/ArrayList", "isEmpty", "()Z"⟩ U
theorem XE.moved {u U : State} (hvm : u.vm.Alike U.vm) (h : XE u) : XE U := ⟨h.1.moved (by decide) hvm, h.2.1.moved (by decide) hvm, h.2.2.1.moved (by decide) hvm, h.2.2.2.moved (by decide) hvm⟩
def XG7 (S : Adr) (U : State) : Prop := (∃ kA : Class, U.vm.classes[S.2.2.2 7]? = some kA ∧ kA.kind = .array (S.2.2.2 1) (.array .int)) ∧ va_Mi "[Ljava/lang/Object;" (S.2.1 706) U ∧ va_AO RX5 U ∧ (∃ kA : Class, U.vm.classes[S.2.2.2 8]? = some kA ∧ kA.kind = .array (S.2.2.2 7) (.array (.array .int))) ∧ U.vm.findClass "[[I" = some (S.2.2.2 7) ∧ U.vm.findClass "[[[I" = some (S.2.2.2 8)
theorem XG7.moved {S : Adr} {u U : State} (hvm : u.vm.Alike U.vm) (h : XG7 S u) : XG7 S U := by
  obtain ⟨⟨kA, h1, h2⟩, h3, h4, ⟨kB, h5, h6⟩, h7, h8⟩ := h
  obtain ⟨kb, hkb, heb⟩ := hvm.2.2 _ _ h5
  obtain ⟨k', hk', he⟩ := hvm.2.2 _ _ h1
  exact ⟨⟨k', hk', by rw [he]; exact h2⟩, h3.moved hvm, va_AO.moved hvm h4, ⟨kb, hkb, by rw [heb]; exact h6⟩, by rw [hvm.findClass]; exact h7, by rw [hvm.findClass]; exact h8⟩
/-- the statics that are read -/
def XZ (S : Adr) (A : Nat → Prop) (U : State) (H : Heap) : Prop := va_Z "java/lang/String" "COMPACT_STRINGS" "Z" (.int 1) A U H ∧ va_Z "java/util/ArrayList" "DEFAULTCAPACITY_EMPTY_ELEMENTDATA" "[Ljava/lang/Object;" (.ref (S.2.1 704)) A U H ∧ va_Zq "jdk/internal/util/Preconditions" "SIOOBE_FORMATTER" "Ljava/util/function/BiFunction;" A U H ∧ va_Z "ShrugHills" "OWN" "[Ljava/lang/String;" (.ref (S.2.1 700)) A U H ∧ va_Z "ShrugHills" "ASKED" "[Ljava/lang/String;" (.ref (S.2.1 701)) A U H ∧ va_Z "ShrugHills" "LOOKED" "[Ljava/lang/String;" (.ref (S.2.1 702)) A U H ∧ va_Z "ShrugHills" "TOLD_OF" "[Ljava/lang/String;" (.ref (S.2.1 703)) A U H ∧ va_Zq "java/lang/Throwable" "UNASSIGNED_STACK" "[Ljava/lang/StackTraceElement;" A U H ∧ va_Zq "java/lang/Throwable" "SUPPRESSED_SENTINEL" "Ljava/util/List;" A U H
theorem XZ.moved {S : Adr} {A : Nat → Prop} {u U : State} {H : Heap} (hvm : u.vm.Alike U.vm) (h : XZ S A u H) : XZ S A U H := ⟨h.1.moved hvm, h.2.1.moved hvm, h.2.2.1.moved hvm, h.2.2.2.1.moved hvm, h.2.2.2.2.1.moved hvm, h.2.2.2.2.2.1.moved hvm, h.2.2.2.2.2.2.1.moved hvm, h.2.2.2.2.2.2.2.1.moved hvm, h.2.2.2.2.2.2.2.2.moved hvm⟩
theorem XZ.kept {S : Adr} {A : Nat → Prop} {U : State} {H H1 : Heap} (h : XZ S A U H) (hq : ∀ a : Nat, a < H.size → ¬ A a → H1[a]? = H[a]?) : XZ S A U H1 := ⟨h.1.kept hq, h.2.1.kept hq, h.2.2.1.kept hq, h.2.2.2.1.kept hq, h.2.2.2.2.1.kept hq, h.2.2.2.2.2.1.kept hq, h.2.2.2.2.2.2.1.kept hq, h.2.2.2.2.2.2.2.1.kept hq, h.2.2.2.2.2.2.2.2.kept hq⟩
/-- the String constants of the Reader, in this order -/
def xstr : List (Nat × String) := [(128, "plain"), (130, "by"), (165, "at"), (174, "tired"), (190, "of"), (213, "high"), (215, "topic"), (217, "person"), (219, "knows"), (220, "asks"), (242, "lifts"), (244, "tires"), (246, "holds"), (248, "crowd"), (313, "min"), (315, "max"), (328, "or"), (336, "and"), (338, "not"), (345, "all")]
def XSr (S : Adr) (U : State) : Prop := ∀ (i : Nat) (q : Nat × String), xstr[i]? = some q → vk_R RX2 q.1 q.2 (S.2.1 (600 + i)) U
def XK (S : Adr) (U : State) : Prop := va_K S.1 xcl (xtys S) U ∧ NW U ∧ XE U ∧ XG7 S U ∧ XSr S U ∧ va_AO "java/lang/Object" U
theorem XK.warm {S : Adr} {s U : State} (hW : s.WarmedH U.vm) (h : XK S s) : XK S U := ⟨va_K.moved hW.alike h.1, h.2.1.warm hW, h.2.2.1.moved hW.alike, h.2.2.2.1.moved hW.alike, fun i q hq => (h.2.2.2.2.1 i q hq).warm hW, va_AO.moved hW.alike h.2.2.2.2.2⟩
theorem XK.same {S : Adr} {s U : State} (hv : s.vm = U.vm) (h : XK S s) : XK S U := ⟨va_K.moved (hv ▸ Vm.Alike.refl s.vm) h.1, h.2.1.same hv, h.2.2.1.moved (hv ▸ Vm.Alike.refl s.vm), h.2.2.2.1.moved (hv ▸ Vm.Alike.refl s.vm), fun i q hq => (h.2.2.2.2.1 i q hq).same hv.symm, va_AO.moved (hv ▸ Vm.Alike.refl s.vm) h.2.2.2.2.2⟩
def rmX (n mc ms : Nat) : Room := { frames := n, cells := mc, slots := ms, locals := 60 * n }
def XCx (κ : Cx) (cc : ByteArray) (own : String) (S : Adr) (A : Nat → Prop) (n mc ms : Nat) : Prop := CxOK κ cc own ∧ XK S (cxS κ) ∧ FD xT S xcl A ∧ (∀ q : Nat, (cxS κ).heap.size ≤ q → A q) ∧ (∀ q, fCell xT S xcl q → q < (cxS κ).heap.size) ∧ cxR κ = rmX n mc ms ∧ XZ S A (cxS κ) (cxS κ).heap
abbrev XG (κ : Cx) (S : Adr) (A : Nat → Prop) (mc ms : Nat) (Q : State → Prop) : Nat → XM → List (Option Value) → List Value → Prop := GW κ A (XInv S A mc ms) Q
section XW
variable {p : Program} {l : Launch} {e : Env} {R : Room} {s : State} {m : MethodId} {args : Array Value} {below : List Frame} {meth : Method} {c : Code} {H : Heap} {locs : List Loc} {cells slots : Nat} {Q : State → Prop}
variable {cc : ByteArray} {pc : Nat} {ls : Array Slot} {rest : List Value} {A : Nat → Prop} {a : Nat} {H0 : Heap}
theorem ob_getN (hexec : p.tables.exec = Jvm.exec) (hb : c.code = cc) {own ref C host : String} {T : u_T} {N index : Nat} {Ts : List Cond} {cC : ClassId} {iS : Nat → Nat} {V : Nat → Value} (hts : ∀ w ∈ Ts, w.before args s = true) (hin : ∀ w ∈ u_ws C T N, w ∈ Ts) (hown : s.vm.findClass own = some m.cls) (hKn : u_Kn s C T N cC iS) (hO : t_OB a cC N iS H V) (k : Nat) (hk : k < N) (hlink : (Cond.fieldLinkNest own index ref (T k).2.1 (T k).2.2.1 host).before args s = true) (hsame : ∀ x, s.fieldFound? (T k).1 (T k).2.1 (T k).2.2.1 = some x → s.fieldFound? ref (T k).2.1 (T k).2.2.1 = some x) (hdg : decode cc pc = .ok (.getfield index, 3))
    (kk : W p l e R s m args below meth c H locs cells slots Q (F0 m (pc + 3) ls (V k :: rest))) : W p l e R s m args below meth c H locs cells slots Q (F0 m pc ls (.ref a :: rest)) := by
  obtain ⟨cell, q1, q2, q3, q4⟩ := hO
  obtain ⟨hS, hfc, kC, hkC, hkind⟩ := hKn
  obtain ⟨cf, kf, fi, f, hi, hsl⟩ := hS k hk
  refine va_Wgetf hexec hb hown hlink (hsame _ hi) (u_facts hfc hkC (u_lays hts hin hk) hi).1 q1 (by rw [q3]; exact fun h => by cases h) (v := V k) ?_ rfl rfl hdg kk
  rw [hsl, q4 k hk]
theorem ob_putN (hexec : p.tables.exec = Jvm.exec) (hb : c.code = cc) {own ref C host : String} {T : u_T} {N index : Nat} {Ts : List Cond} {cC : ClassId} {iS : Nat → Nat} {V : Nat → Value} (hts : ∀ w ∈ Ts, w.before args s = true) (hin : ∀ w ∈ u_ws C T N, w ∈ Ts) (ty0 : Nat → FieldType) (hty : ∀ k, k < N → parseFieldDescriptor (T k).2.2.1 = some (ty0 k)) (hnm : ∀ a, a < N → ∀ b, b < N → a ≠ b → (T a).2.1 ≠ (T b).2.1) (hown : s.vm.findClass own = some m.cls) (hKn : u_Kn s C T N cC iS) (hO : t_OB a cC N iS H V) (hS0 : va_S A H0 H locs) (hAa : A a) (k : Nat) (hk : k < N) (hlink : (Cond.fieldLinkNest own index ref (T k).2.1 (T k).2.2.1 host).before args s = true) (hsame : ∀ x, s.fieldFound? (T k).1 (T k).2.1 (T k).2.2.1 = some x → s.fieldFound? ref (T k).2.1 (T k).2.2.1 = some x) (hfin : (T k).2.2.2 = false) {ty : FieldType} {v : Value} (hd : ty0 k = ty) (hn : narrow ty v = v) (hfit : fits ty v = true)
    (hdg : decode cc pc = .ok (.putfield index, 3)) (kk : ∀ (H1 : Heap) (locs1 : List Loc), t_OB a cC N iS H1 (updV V k v) → H1.size = H.size → (∀ q, q ≠ a → H1[q]? = H[q]?) → va_S A H0 H1 locs1 → W p l e R s m args below meth c H1 locs1 cells slots Q (F0 m (pc + 3) ls rest)) : W p l e R s m args below meth c H locs cells slots Q (F0 m pc ls (v :: .ref a :: rest)) := by
  have hap := ob_apart hts hin ty0 hty hnm hKn
  obtain ⟨cell, q1, q2, q3, q4⟩ := hO
  obtain ⟨hS, hfc, kC, hkC, hkind⟩ := hKn
  obtain ⟨cf, kf, fi, f, hi, hsl⟩ := hS k hk
  have hlay := hts _ (hin _ (u_in_lay hk))
  unfold u_lay at hlay
  rw [if_neg (by rw [hfin]; decide)] at hlay
  have hst := (u_facts hfc hkC (u_lays hts hin hk) hi).1
  have h6 := u_store hfc hkC hkind hlay hi (by rw [hty k hk, hd]) hn hfit
  refine va_WputK hexec hb (f := f) hown hlink (hsame _ hi) hst (by rw [q2]; exact h6) q1 q3 (by rw [hsl]; exact k2_hasslot (q4 k hk)) rfl rfl hdg fun H' e1 e2 e3 => ?_
  rw [hsl] at e1 ⊢
  exact kk H' _ ⟨_, e1, q2, q3, t_set q4 hap hk v⟩ e2 e3 (hS0.put e2 e3 hAa)
theorem ob_putF (hexec : p.tables.exec = Jvm.exec) (hb : c.code = cc) {own ref C : String} {T : u_T} {N index : Nat} {Ts : List Cond} {cC : ClassId} {iS : Nat → Nat} {V : Nat → Value} (hts : ∀ w ∈ Ts, w.before args s = true) (hin : ∀ w ∈ u_ws C T N, w ∈ Ts) (ty0 : Nat → FieldType) (hty : ∀ k, k < N → parseFieldDescriptor (T k).2.2.1 = some (ty0 k)) (hnm : ∀ a, a < N → ∀ b, b < N → a ≠ b → (T a).2.1 ≠ (T b).2.1) (hown : s.vm.findClass own = some m.cls) (hKn : u_Kn s C T N cC iS) (hO : t_OB a cC N iS H V) (hS0 : va_S A H0 H locs) (hAa : A a) (k : Nat) (hk : k < N) (hlink : (Cond.fieldLink own index ref (T k).2.1 (T k).2.2.1).before args s = true) (hsame : ∀ x, s.fieldFound? (T k).1 (T k).2.1 (T k).2.2.1 = some x → s.fieldFound? ref (T k).2.1 (T k).2.2.1 = some x) (hfin : (T k).2.2.2 = true) (hin2 : meth.name = "<init>") (hdecl : (T k).1 = own) {ty : FieldType} {v : Value} (hd : ty0 k = ty) (hn : narrow ty v = v) (hfit : fits ty v = true)
    (hdg : decode cc pc = .ok (.putfield index, 3)) (kk : ∀ (H1 : Heap) (locs1 : List Loc), t_OB a cC N iS H1 (updV V k v) → H1.size = H.size → (∀ q, q ≠ a → H1[q]? = H[q]?) → va_S A H0 H1 locs1 → W p l e R s m args below meth c H1 locs1 cells slots Q (F0 m (pc + 3) ls rest)) : W p l e R s m args below meth c H locs cells slots Q (F0 m pc ls (v :: .ref a :: rest)) := by
  have hap := ob_apart hts hin ty0 hty hnm hKn
  obtain ⟨cell, q1, q2, q3, q4⟩ := hO
  obtain ⟨hS, hfc, kC, hkC, hkind⟩ := hKn
  obtain ⟨cf, kf, fi, f, hi, hsl⟩ := hS k hk
  have hlay := hts _ (hin _ (u_in_lay hk))
  unfold u_lay at hlay
  rw [if_pos hfin] at hlay
  have hst := (u_facts hfc hkC (u_lays hts hin hk) hi).1
  have hcf : m.cls = cf := by
    obtain ⟨_, _, c', _, _, _, -, -, hf', -, -, -, hown2, -⟩ := Cond.laysFinal_spec hlay
    have e1 : c' = cf := by have := hi.symm.trans hf'; simp at this; exact this.1.symm
    rw [hdecl] at hown2
    rw [← e1]; exact Option.some.inj (hown.symm.trans hown2)
  have h6 := u_fits hfc hkC hkind (Or.inr hlay) hi (by rw [hty k hk, hd]) hn hfit
  refine W.putFinK hexec hb hown hlink (hsame _ hi) hst hcf hin2 (by rw [q2]; exact h6) q1 q3 (by rw [hsl]; exact k2_hasslot (q4 k hk)) rfl rfl hdg fun H' e1 e2 e3 => ?_
  rw [hsl] at e1 ⊢
  exact kk H' _ ⟨_, e1, q2, q3, t_set q4 hap hk v⟩ e2 e3 (hS0.put e2 e3 hAa)
end XW
section XR
variable {κ : Cx} {S : Adr} {A : Nat → Prop} {mc ms : Nat} {Q : State → Prop} {cc : ByteArray} {own : String} {n : Nat} {μ : XM} {lv : List (Option Value)} {st : List Value} {C ref host : String} {T : u_T} {N : Nat}
theorem xk_get (pc : Nat) {idx : Nat} (c k : Nat) {o : Nat} (ho : xT.1 o = c) (hcl : xcl[c]? = some (C, T, N)) (hin : ∀ w ∈ u_ws C T N, w ∈ lw_all) (hk : k < N) (h : XCx κ cc own S A n mc ms) (hq : Jvm.Cond.fieldLink own idx ref (T k).2.1 (T k).2.2.1 ∈ lw_all) (hr : (T k).1 = ref) (d : decode cc pc = .ok (.getfield idx, 3)) (K : XG κ S A mc ms Q (pc + 3) μ lv (fval xT S μ.1.1 o k :: st)) : XG κ S A mc ms Q pc μ lv (.ref (S.2.1 o) :: st) := by
  intro H locs ls cells slots a b q
  subst ho
  exact ob_get h.1.1 h.1.2.1 h.1.2.2.2 hin h.1.2.2.1 (h.2.1.1.1 _ _ hcl) (a.1.1.1 o _ hcl) k hk (h.1.2.2.2 _ hq) (fun x hx => by rw [hr] at hx; exact hx) d (K H locs ls cells slots a b q)
theorem xk_getN (pc : Nat) {idx : Nat} (c k : Nat) {o : Nat} (ho : xT.1 o = c) (hcl : xcl[c]? = some (C, T, N)) (hin : ∀ w ∈ u_ws C T N, w ∈ lw_all) (hk : k < N) (h : XCx κ cc own S A n mc ms) (hq : Jvm.Cond.fieldLinkNest own idx ref (T k).2.1 (T k).2.2.1 host ∈ lw_tbl) (hr : (T k).1 = ref) (d : decode cc pc = .ok (.getfield idx, 3)) (K : XG κ S A mc ms Q (pc + 3) μ lv (fval xT S μ.1.1 o k :: st)) : XG κ S A mc ms Q pc μ lv (.ref (S.2.1 o) :: st) := by
  intro H locs ls cells slots a b q
  subst ho
  exact ob_getN h.1.1 h.1.2.1 h.1.2.2.2 hin h.1.2.2.1 (h.2.1.1.1 _ _ hcl) (a.1.1.1 o _ hcl) k hk (va_Nw.use rfl (h.2.1.2.1 _ hq rfl)) (fun x hx => by rw [hr] at hx; exact hx) d (K H locs ls cells slots a b q)
theorem xr_get (pc : Nat) {idx : Nat} (c k : Nat) {o : Nat} (ho : rc μ.1.2 o = c + 1) (hcl : xcl[c]? = some (C, T, N)) (hin : ∀ w ∈ u_ws C T N, w ∈ lw_all) (hk : k < N) (h : XCx κ cc own S A n mc ms) (hq : Jvm.Cond.fieldLink own idx ref (T k).2.1 (T k).2.2.1 ∈ lw_all) (hr : (T k).1 = ref) (d : decode cc pc = .ok (.getfield idx, 3)) (K : XG κ S A mc ms Q (pc + 3) μ lv (rval S μ.1.2 c o k :: st)) : XG κ S A mc ms Q pc μ lv (.ref o :: st) := by
  intro H locs ls cells slots a b q
  exact ob_get h.1.1 h.1.2.1 h.1.2.2.2 hin h.1.2.2.1 (h.2.1.1.1 _ _ hcl) (a.1.2.1.1 o c _ ho hcl) k hk (h.1.2.2.2 _ hq) (fun x hx => by rw [hr] at hx; exact hx) d (K H locs ls cells slots a b q)
theorem xr_getN (pc : Nat) {idx : Nat} (c k : Nat) {o : Nat} (ho : rc μ.1.2 o = c + 1) (hcl : xcl[c]? = some (C, T, N)) (hin : ∀ w ∈ u_ws C T N, w ∈ lw_all) (hk : k < N) (h : XCx κ cc own S A n mc ms) (hq : Jvm.Cond.fieldLinkNest own idx ref (T k).2.1 (T k).2.2.1 host ∈ lw_tbl) (hr : (T k).1 = ref) (d : decode cc pc = .ok (.getfield idx, 3)) (K : XG κ S A mc ms Q (pc + 3) μ lv (rval S μ.1.2 c o k :: st)) : XG κ S A mc ms Q pc μ lv (.ref o :: st) := by
  intro H locs ls cells slots a b q
  exact ob_getN h.1.1 h.1.2.1 h.1.2.2.2 hin h.1.2.2.1 (h.2.1.1.1 _ _ hcl) (a.1.2.1.1 o c _ ho hcl) k hk (va_Nw.use rfl (h.2.1.2.1 _ hq rfl)) (fun x hx => by rw [hr] at hx; exact hx) d (K H locs ls cells slots a b q)
theorem xk_put (pc : Nat) {idx : Nat} (c k : Nat) {o : Nat} {v : Value} {σ' : FS} (ho : xT.1 o = c) (hcl : xcl[c]? = some (C, T, N)) (hin : ∀ w ∈ u_ws C T N, w ∈ lw_all) (ty0 : Nat → FieldType) (hty : ∀ k, k < N → parseFieldDescriptor (T k).2.2.1 = some (ty0 k)) (hnm : ∀ a, a < N → ∀ b, b < N → a ≠ b → (T a).2.1 ≠ (T b).2.1) (hk : k < N) (h : XCx κ cc own S A n mc ms) (hq : Jvm.Cond.fieldLink own idx ref (T k).2.1 (T k).2.2.1 ∈ lw_all) (hr : (T k).1 = ref) (hf : (T k).2.2.2 = false) {ty : FieldType} (hd : ty0 k = ty) (hn : narrow ty v = v) (hfit : fits ty v = true)
    (hv : ∀ o' k', fval xT S σ' o' k' = if o' = o ∧ k' = k then v else fval xT S μ.1.1 o' k') (ha : ∀ a, acont xT S σ' a = acont xT S μ.1.1 a) (hL : ∀ i, fR σ' 900 i = fR μ.1.1 900 i ∧ fR σ' 901 i = fR μ.1.1 901 i) (d : decode cc pc = .ok (.putfield idx, 3)) (K : XG κ S A mc ms Q (pc + 3) ((σ', μ.1.2), μ.2) lv st) : XG κ S A mc ms Q pc μ lv (v :: .ref (S.2.1 o) :: st) := by
  intro H locs ls cells slots a b q
  subst ho
  have hol : xT.1 o < xcl.length := (List.getElem?_eq_some_iff.mp hcl).1
  refine ob_put h.1.1 h.1.2.1 h.1.2.2.2 hin ty0 hty hnm h.1.2.2.1 (h.2.1.1.1 _ _ hcl) (a.1.1.1 o _ hcl) b (h.2.2.1.2.2.2.1 o hol) k hk (h.1.2.2.2 _ hq) (fun x hx => by rw [hr] at hx; exact hx) hf hd hn hfit d (fun H1 locs1 hO hz hq1 hS1 => ?_)
  exact K H1 locs1 ls cells slots ⟨a.1.keyed ⟨fun i => ⟨(hL i).1.trans (a.1.2.2.2.1 i).1, (hL i).2.trans (a.1.2.2.2.1 i).2⟩, a.1.2.2.2.2⟩ (a.1.1.putV h.2.2.1 (o := o) (k := k) (v := v) hcl hO hq1 hv ha) (Or.inl ⟨o, hol, rfl⟩) hq1, a.2⟩ hS1 q
theorem xr_put (pc : Nat) {idx : Nat} (c k : Nat) {o : Nat} {v : Value} {ρ' : RS} (ho : rk μ.1.2 o = c + 1) (hcl : xcl[c]? = some (C, T, N)) (hin : ∀ w ∈ u_ws C T N, w ∈ lw_all) (ty0 : Nat → FieldType) (hty : ∀ k, k < N → parseFieldDescriptor (T k).2.2.1 = some (ty0 k)) (hnm : ∀ a, a < N → ∀ b, b < N → a ≠ b → (T a).2.1 ≠ (T b).2.1) (hk : k < N) (h : XCx κ cc own S A n mc ms) (hq : Jvm.Cond.fieldLink own idx ref (T k).2.1 (T k).2.2.1 ∈ lw_all) (hr : (T k).1 = ref) (hf : (T k).2.2.2 = false) {ty : FieldType} (hd : ty0 k = ty) (hn : narrow ty v = v) (hfit : fits ty v = true)
    (hkk : ρ'.1 = μ.1.2.1) (hoo : ∀ b, b ≠ o → (∀ k, rI ρ' b k = rI μ.1.2 b k) ∧ (∀ k, rL ρ' b k = rL μ.1.2 b k) ∧ ∀ k, rO ρ' b k = rO μ.1.2 b k) (hv : ∀ k', rval S ρ' c o k' = if k' = k then v else rval S μ.1.2 c o k') (d : decode cc pc = .ok (.putfield idx, 3)) (K : XG κ S A mc ms Q (pc + 3) ((μ.1.1, ρ'), μ.2) lv st) : XG κ S A mc ms Q pc μ lv (v :: .ref o :: st) := by
  intro H locs ls cells slots a b q
  have hc22 : c < 22 := (List.getElem?_eq_some_iff.mp hcl).1
  have hrc : rc μ.1.2 o = c + 1 := rc_of ho (by omega)
  have hne : rk μ.1.2 o ≠ 0 := by omega
  refine ob_put h.1.1 h.1.2.1 h.1.2.2.2 hin ty0 hty hnm h.1.2.2.1 (h.2.1.1.1 _ _ hcl) (a.1.2.1.1 o c _ hrc hcl) b ((a.1.2.2.1 o hne).2.1 (by omega)) k hk (h.1.2.2.2 _ hq) (fun x hx => by rw [hr] at hx; exact hx) hf hd hn hfit d (fun H1 locs1 hO hz hq1 hS1 => ?_)
  refine K H1 locs1 ls cells slots ⟨a.1.raw hne hq1 hkk hoo (fun c' r' hc' hr' => ?_) (fun t ht => absurd (hrc.symm.trans ht) (by omega)), a.2⟩ hS1 q
  obtain rfl : c' = c := by omega
  cases hcl.symm.trans hr'
  refine hO.to (fun j _ => ?_)
  rw [hv]
  by_cases e : j = k
  · subst e; simp [updV]
  · simp [updV, e]
theorem xk_putN (pc : Nat) {idx : Nat} (c k : Nat) {o : Nat} {v : Value} {σ' : FS} (ho : xT.1 o = c) (hcl : xcl[c]? = some (C, T, N)) (hin : ∀ w ∈ u_ws C T N, w ∈ lw_all) (ty0 : Nat → FieldType) (hty : ∀ k, k < N → parseFieldDescriptor (T k).2.2.1 = some (ty0 k)) (hnm : ∀ a, a < N → ∀ b, b < N → a ≠ b → (T a).2.1 ≠ (T b).2.1) (hk : k < N) (h : XCx κ cc own S A n mc ms) (hq : Jvm.Cond.fieldLinkNest own idx ref (T k).2.1 (T k).2.2.1 host ∈ lw_tbl) (hr : (T k).1 = ref) (hf : (T k).2.2.2 = false) {ty : FieldType} (hd : ty0 k = ty) (hn : narrow ty v = v) (hfit : fits ty v = true)
    (hv : ∀ o' k', fval xT S σ' o' k' = if o' = o ∧ k' = k then v else fval xT S μ.1.1 o' k') (ha : ∀ a, acont xT S σ' a = acont xT S μ.1.1 a) (hL : ∀ i, fR σ' 900 i = fR μ.1.1 900 i ∧ fR σ' 901 i = fR μ.1.1 901 i) (d : decode cc pc = .ok (.putfield idx, 3)) (K : XG κ S A mc ms Q (pc + 3) ((σ', μ.1.2), μ.2) lv st) : XG κ S A mc ms Q pc μ lv (v :: .ref (S.2.1 o) :: st) := by
  intro H locs ls cells slots a b q
  subst ho
  have hol : xT.1 o < xcl.length := (List.getElem?_eq_some_iff.mp hcl).1
  refine ob_putN h.1.1 h.1.2.1 h.1.2.2.2 hin ty0 hty hnm h.1.2.2.1 (h.2.1.1.1 _ _ hcl) (a.1.1.1 o _ hcl) b (h.2.2.1.2.2.2.1 o hol) k hk (va_Nw.use rfl (h.2.1.2.1 _ hq rfl)) (fun x hx => by rw [hr] at hx; exact hx) hf hd hn hfit d (fun H1 locs1 hO hz hq1 hS1 => ?_)
  exact K H1 locs1 ls cells slots ⟨a.1.keyed ⟨fun i => ⟨(hL i).1.trans (a.1.2.2.2.1 i).1, (hL i).2.trans (a.1.2.2.2.1 i).2⟩, a.1.2.2.2.2⟩ (a.1.1.putV h.2.2.1 (o := o) (k := k) (v := v) hcl hO hq1 hv ha) (Or.inl ⟨o, hol, rfl⟩) hq1, a.2⟩ hS1 q
theorem xr_putN (pc : Nat) {idx : Nat} (c k : Nat) {o : Nat} {v : Value} {ρ' : RS} (ho : rk μ.1.2 o = c + 1) (hcl : xcl[c]? = some (C, T, N)) (hin : ∀ w ∈ u_ws C T N, w ∈ lw_all) (ty0 : Nat → FieldType) (hty : ∀ k, k < N → parseFieldDescriptor (T k).2.2.1 = some (ty0 k)) (hnm : ∀ a, a < N → ∀ b, b < N → a ≠ b → (T a).2.1 ≠ (T b).2.1) (hk : k < N) (h : XCx κ cc own S A n mc ms) (hq : Jvm.Cond.fieldLinkNest own idx ref (T k).2.1 (T k).2.2.1 host ∈ lw_tbl) (hr : (T k).1 = ref) (hf : (T k).2.2.2 = false) {ty : FieldType} (hd : ty0 k = ty) (hn : narrow ty v = v) (hfit : fits ty v = true)
    (hkk : ρ'.1 = μ.1.2.1) (hoo : ∀ b, b ≠ o → (∀ k, rI ρ' b k = rI μ.1.2 b k) ∧ (∀ k, rL ρ' b k = rL μ.1.2 b k) ∧ ∀ k, rO ρ' b k = rO μ.1.2 b k) (hv : ∀ k', rval S ρ' c o k' = if k' = k then v else rval S μ.1.2 c o k') (d : decode cc pc = .ok (.putfield idx, 3)) (K : XG κ S A mc ms Q (pc + 3) ((μ.1.1, ρ'), μ.2) lv st) : XG κ S A mc ms Q pc μ lv (v :: .ref o :: st) := by
  intro H locs ls cells slots a b q
  have hc22 : c < 22 := (List.getElem?_eq_some_iff.mp hcl).1
  have hrc : rc μ.1.2 o = c + 1 := rc_of ho (by omega)
  have hne : rk μ.1.2 o ≠ 0 := by omega
  refine ob_putN h.1.1 h.1.2.1 h.1.2.2.2 hin ty0 hty hnm h.1.2.2.1 (h.2.1.1.1 _ _ hcl) (a.1.2.1.1 o c _ hrc hcl) b ((a.1.2.2.1 o hne).2.1 (by omega)) k hk (va_Nw.use rfl (h.2.1.2.1 _ hq rfl)) (fun x hx => by rw [hr] at hx; exact hx) hf hd hn hfit d (fun H1 locs1 hO hz hq1 hS1 => ?_)
  refine K H1 locs1 ls cells slots ⟨a.1.raw hne hq1 hkk hoo (fun c' r' hc' hr' => ?_) (fun t ht => absurd (hrc.symm.trans ht) (by omega)), a.2⟩ hS1 q
  obtain rfl : c' = c := by omega
  cases hcl.symm.trans hr'
  refine hO.to (fun j _ => ?_)
  rw [hv]
  by_cases e : j = k
  · subst e; simp [updV]
  · simp [updV, e]
theorem xr_putF (pc : Nat) {idx : Nat} (c k : Nat) {o : Nat} {v : Value} {ρ' : RS} (hI : (cxT κ).name = "<init>") (ho : rk μ.1.2 o = c + 1) (hcl : xcl[c]? = some (C, T, N)) (hin : ∀ w ∈ u_ws C T N, w ∈ lw_all) (ty0 : Nat → FieldType) (hty : ∀ k, k < N → parseFieldDescriptor (T k).2.2.1 = some (ty0 k)) (hnm : ∀ a, a < N → ∀ b, b < N → a ≠ b → (T a).2.1 ≠ (T b).2.1) (hk : k < N) (h : XCx κ cc own S A n mc ms) (hq : Jvm.Cond.fieldLink own idx ref (T k).2.1 (T k).2.2.1 ∈ lw_all) (hr : (T k).1 = ref) (hdc : (T k).1 = own) (hf : (T k).2.2.2 = true) {ty : FieldType} (hd : ty0 k = ty) (hn : narrow ty v = v) (hfit : fits ty v = true)
    (hkk : ρ'.1 = μ.1.2.1) (hoo : ∀ b, b ≠ o → (∀ k, rI ρ' b k = rI μ.1.2 b k) ∧ (∀ k, rL ρ' b k = rL μ.1.2 b k) ∧ ∀ k, rO ρ' b k = rO μ.1.2 b k) (hv : ∀ k', rval S ρ' c o k' = if k' = k then v else rval S μ.1.2 c o k') (d : decode cc pc = .ok (.putfield idx, 3)) (K : XG κ S A mc ms Q (pc + 3) ((μ.1.1, ρ'), μ.2) lv st) : XG κ S A mc ms Q pc μ lv (v :: .ref o :: st) := by
  intro H locs ls cells slots a b q
  have hc22 : c < 22 := (List.getElem?_eq_some_iff.mp hcl).1
  have hrc : rc μ.1.2 o = c + 1 := rc_of ho (by omega)
  have hne : rk μ.1.2 o ≠ 0 := by omega
  refine ob_putF h.1.1 h.1.2.1 h.1.2.2.2 hin ty0 hty hnm h.1.2.2.1 (h.2.1.1.1 _ _ hcl) (a.1.2.1.1 o c _ hrc hcl) b ((a.1.2.2.1 o hne).2.1 (by omega)) k hk (h.1.2.2.2 _ hq) (fun x hx => by rw [hr] at hx; exact hx) hf hI hdc hd hn hfit d (fun H1 locs1 hO hz hq1 hS1 => ?_)
  refine K H1 locs1 ls cells slots ⟨a.1.raw hne hq1 hkk hoo (fun c' r' hc' hr' => ?_) (fun t ht => absurd (hrc.symm.trans ht) (by omega)), a.2⟩ hS1 q
  obtain rfl : c' = c := by omega
  cases hcl.symm.trans hr'
  refine hO.to (fun j _ => ?_)
  rw [hv]
  by_cases e : j = k
  · subst e; simp [updV]
  · simp [updV, e]
theorem tI_o (ρ : RS) (o k : Nat) (v : Int32) : ∀ b, b ≠ o → (∀ j, rI (tI ρ o k v) b j = rI ρ b j) ∧ (∀ j, rL (tI ρ o k v) b j = rL ρ b j) ∧ ∀ j, rO (tI ρ o k v) b j = rO ρ b j := fun b e => ⟨fun j => by simp [rI, tI, up2, e], fun _ => rfl, fun _ => rfl⟩
theorem tL_o (ρ : RS) (o k : Nat) (v : Int64) : ∀ b, b ≠ o → (∀ j, rI (tL ρ o k v) b j = rI ρ b j) ∧ (∀ j, rL (tL ρ o k v) b j = rL ρ b j) ∧ ∀ j, rO (tL ρ o k v) b j = rO ρ b j := fun b e => ⟨fun _ => rfl, fun j => by simp [rL, tL, up2, e], fun _ => rfl⟩
theorem tO_o (ρ : RS) (o k : Nat) (v : Option Nat) : ∀ b, b ≠ o → (∀ j, rI (tO ρ o k v) b j = rI ρ b j) ∧ (∀ j, rL (tO ρ o k v) b j = rL ρ b j) ∧ ∀ j, rO (tO ρ o k v) b j = rO ρ b j := fun b e => ⟨fun _ => rfl, fun _ => rfl, fun j => by simp [rO, tO, up2, e]⟩
theorem rval_tI {ρ : RS} {c o k : Nat} {v : Int32} (hk : xT.2.1 c k = 0) (k' : Nat) : rval S (tI ρ o k v) c o k' = if k' = k then .int v else rval S ρ c o k' := by
  by_cases e : k' = k
  · subst e; simp [rval, hk, rI, tI, up2]
  · rw [if_neg e]; exact rval_eq (by simp [rI, tI, up2, e]) rfl rfl
theorem rval_tL {ρ : RS} {c o k : Nat} {v : Int64} (hk : xT.2.1 c k = 1) (k' : Nat) : rval S (tL ρ o k v) c o k' = if k' = k then .long v else rval S ρ c o k' := by
  by_cases e : k' = k
  · subst e; simp [rval, hk, rL, tL, up2]
  · rw [if_neg e]; exact rval_eq rfl (by simp [rL, tL, up2, e]) rfl
theorem rval_tO {ρ : RS} {c o k : Nat} {v : Option Nat} (hk : xT.2.1 c k = 4 ∨ xT.2.1 c k = 5) (k' : Nat) : rval S (tO ρ o k v) c o k' = if k' = k then va_rf v else rval S ρ c o k' := by
  by_cases e : k' = k
  · subst e; rcases hk with hk | hk <;> simp [rval, hk, rO, tO, up2]
  · rw [if_neg e]; exact rval_eq rfl rfl (by simp [rO, tO, up2, e])
end XR
