/-! THE SYSTEM's CONTRACTS AND CALLS -/
def xPre (S : Adr) (A : Nat → Prop) (ν : XN) (U : State) : Prop := XI S A ν U.heap ∧ XK S U ∧ (∀ q : Nat, U.heap.size ≤ q → A q) ∧ (∀ q, fCell xT S xcl q → q < U.heap.size) ∧ XZ S A U U.heap
def xQ (S : Adr) (A : Nat → Prop) (post : Option Value → XN → Prop) : Array Value → State → Outcome → State → Prop := fun _ st oc t => (∃ (r : Option Value) (ν : XN), oc = .returned r ∧ post r ν ∧ XI S A ν t.heap) ∧ va_F A st t
def pI (Q : Int32 → XN → Prop) : Option Value → XN → Prop := fun r ν => ∃ v, r = some (.int v) ∧ Q v ν
def pJ (Q : Int64 → XN → Prop) : Option Value → XN → Prop := fun r ν => ∃ v, r = some (.long v) ∧ Q v ν
def pV (Q : XN → Prop) : Option Value → XN → Prop := fun r ν => r = none ∧ Q ν
def pK (S : Adr) (Q : Nat → XN → Prop) : Option Value → XN → Prop := fun r ν => ∃ o, r = some (.ref (S.2.1 o)) ∧ Q o ν
def pA (Q : Nat → XN → Prop) : Option Value → XN → Prop := fun r ν => ∃ a, r = some (.ref a) ∧ Q a ν
def pO (Q : Option Nat → XN → Prop) : Option Value → XN → Prop := fun r ν => ∃ a : Option Nat, r = some (va_rf a) ∧ Q a ν
def xWd (y : MethodName) (b : ByteArray) (L : Nat) (r : Option FieldType) (k : Nat) : Prop := (y.cls ≠ "java/lang/invoke/MethodHandle" ∧ y.cls ≠ "java/lang/invoke/VarHandle" ∧ (parseMethodDescriptor y.desc).map (fun d => d.parameters.length) = some k) ∧ L ≤ 30 ∧ Cond.code y b L r ∈ lw_all ∧ Cond.initialized y.cls ∈ lw_all
/-- a method's contract: av: its receiver, if it has one, and its arguments; k: how many parameters -/
def xMet (l : Launch) (S : Adr) (A : Nat → Prop) (d mc ms k : Nat) (y : MethodName) (av : List Value) (ν : XN) (post : Option Value → XN → Prop) : Prop :=
  ∃ (b : ByteArray) (L : Nat) (r : Option FieldType), xWd y b L r k ∧ Met l y (ws_ y b L r) (rmX d mc ms) (va_Pc av (xPre S A ν)) (xQ S A post) mc ms A
theorem xBlind (S : Adr) (A : Nat → Prop) (ν : XN) (av : List Value) : FrameBlind (va_Pc av (xPre S A ν)) := fun a U g mk q => ⟨q.1, q.2.1, XK.same (s := U) (U := U.calling g mk a) rfl q.2.2.1, q.2.2.2.1, q.2.2.2.2.1, XZ.moved (u := U) (U := U.calling g mk a) (Vm.Alike.refl U.vm) q.2.2.2.2.2⟩
theorem x_room {κ : Cx} {n d mc ms mc' ms' L : Nat} (hn : cxR κ = rmX n mc ms) (hd : d < n) (hL : L ≤ 30) : (rmX d mc' ms').frames + 1 ≤ (cxR κ).frames ∧ 8 + (L + 11) + (rmX d mc' ms').locals ≤ (cxR κ).locals := by
  rw [hn]
  simp only [rmX]
  omega
section XC
variable {κ : Cx} {S : Adr} {A : Nat → Prop} {mc ms : Nat} {Q : State → Prop} {cc : ByteArray} {own : String} {n : Nat} {ν : XN} {k0 n0 : Nat} {lv : List (Option Value)} {rest : List Value} {y : MethodName} {post : Option Value → XN → Prop} {kc nc k1 n1 idx d : Nat} {host : String}
/-- behind a call -/
theorem x_behind {len pc : Nat} {a : Array Value} {st0 : List Value} {H : Heap} {locs : List Loc} {ls : Array Slot} {cells slots : Nat}
    (hr : ∀ T : State, T.heap = H → Stand κ.1 κ.2.1 κ.2.2.1 κ.2.2.2.1 κ.2.2.2.2.1 κ.2.2.2.2.2.1 κ.2.2.2.2.2.2.1 κ.2.2.2.2.2.2.2.1 κ.2.2.2.2.2.2.2.2.1 κ.2.2.2.2.2.2.2.2.2 T locs cells slots → ∃ (v : Option Value) (st₀ t T' : State) (L : List Loc), st₀.heap = H ∧ Stand κ.1 κ.2.1 κ.2.2.1 κ.2.2.2.1 κ.2.2.2.2.1 κ.2.2.2.2.2.1 κ.2.2.2.2.2.2.1 κ.2.2.2.2.2.2.2.1 κ.2.2.2.2.2.2.2.2.1 κ.2.2.2.2.2.2.2.2.2 T' (locs ++ L) (cells + kc) (slots + nc) ∧ (∀ q ∈ L, A q.base) ∧ T'.heap = t.heap ∧ T'.vm = t.vm ∧ xQ S A post a st₀ (.returned v) t ∧
      Goes κ.1 κ.2.2.1 κ.2.2.2.2.2.2.2.1 T (F0 κ.2.2.2.2.2.1 pc ls st0) T' { (F0 κ.2.2.2.2.2.1 pc ls st0) with pc := (F0 κ.2.2.2.2.2.1 pc ls st0).pc + len, stack := v.toList ++ rest })
    (b : va_S A (cxS κ).heap H locs) (c : LV ls (cxC κ).maxLocals lv) (h1 : cells + k0 ≤ mc) (h2 : slots + n0 ≤ ms) (hk : kc + k1 ≤ k0) (hn : nc + n1 ≤ n0)
    (K : ∀ r ν1, post r ν1 → XG κ S A mc ms Q (pc + len) (ν1, k1, n1) lv (r.toList ++ rest)) : cxW κ H locs cells slots Q pc ls st0 := by
  intro T hT X
  obtain ⟨v, st₀, t, T', L, h0, X', hL, e1, e2, ⟨⟨r, ν1, hv, hp, hb⟩, hz, hkk⟩, st⟩ := hr T hT X
  cases hv
  rw [h0] at hz hkk
  obtain ⟨t2, a1, b1⟩ := K v ν1 hp T'.heap (locs ++ L) ls (cells + kc) (slots + nc) ⟨by rw [e1]; exact hb, by show _ + k1 ≤ mc; omega, by show _ + n1 ≤ ms; omega⟩
    ⟨Nat.le_trans b.1 (by rw [e1]; exact hz), fun q g1 g2 => by rw [e1, hkk q (Nat.lt_of_lt_of_le g1 b.1) g2]; exact b.2.1 q g1 g2, fun q hq => by
      rcases List.mem_append.mp hq with h | h
      · exact b.2.2 q h
      · exact hL q h⟩ c T' rfl X'
  exact ⟨t2, st t2 a1, b1⟩
theorem x_fit {H : Heap} {cells slots : Nat} (h : XCx κ cc own S A n mc ms) (h1 : cells + k0 ≤ mc) (h2 : slots + n0 ≤ ms) (hk : kc + k1 ≤ k0) (hn : nc + n1 ≤ n0) : cells + kc ≤ (cxR κ).cells ∧ slots + nc ≤ (cxR κ).slots := by
  rw [h.2.2.2.2.2.1]
  exact ⟨by show _ ≤ mc; omega, by show _ ≤ ms; omega⟩
theorem x_pre {av : List Value} {H : Heap} {locs : List Loc} (h : XCx κ cc own S A n mc ms) (hI : XI S A ν H) (b : va_S A (cxS κ).heap H locs) (U : State) (hU : U.heap = H) (hW : (cxS κ).WarmedH U.vm) : va_Pc av (xPre S A ν) av.toArray U :=
  ⟨rfl, by rw [hU]; exact hI, h.2.1.warm hW, fun q hq => h.2.2.2.1 q (by rw [hU] at hq; exact Nat.le_trans b.1 hq), fun q hq => by rw [hU]; exact x_sz h b q hq, by rw [hU]; exact (h.2.2.2.2.2.2.kept (fun a h1 h2 => b.2.1 a h1 h2)).moved hW.alike⟩
theorem x_recvK (h : XCx κ cc own S A n mc ms) {o c : Nat} {C : String} {T : u_T} {N : Nat} (ho : xT.1 o = c) (hcl : xcl[c]? = some (C, T, N)) {H : Heap} (hI : XI S A ν H) : ∃ cellB : Cell, H[S.2.1 o]? = some cellB ∧ cellB.vm.isStatics = false ∧ (cxS κ).vm.findClass C = some cellB.cls := by
  subst ho
  obtain ⟨cell, q1, q2, q3, -⟩ := hI.1.1 o _ hcl
  obtain ⟨-, hfc, -⟩ := h.2.1.1.1 _ _ hcl
  exact ⟨cell, q1, by rw [q3]; rfl, by rw [q2]; exact hfc⟩
theorem x_recvR (h : XCx κ cc own S A n mc ms) {a c : Nat} {C : String} {T : u_T} {N : Nat} (ho : rc ν.2 a = c + 1) (hcl : xcl[c]? = some (C, T, N)) {H : Heap} (hI : XI S A ν H) : ∃ cellB : Cell, H[a]? = some cellB ∧ cellB.vm.isStatics = false ∧ (cxS κ).vm.findClass C = some cellB.cls := by
  obtain ⟨cell, q1, q2, q3, -⟩ := hI.2.1.1 a c _ ho hcl
  obtain ⟨-, hfc, -⟩ := h.2.1.1.1 _ _ hcl
  exact ⟨cell, q1, by rw [q3]; rfl, by rw [q2]; exact hfc⟩
theorem x_callV (pc : Nat) {b : Nat} {As : List Value} (h : XCx κ cc own S A n mc ms) (hM : xMet κ.2.1 S A d kc nc As.length y (.ref b :: As) ν post) (hd : d < n) (hk : kc + k1 ≤ k0) (hn : nc + n1 ≤ n0) (hi : Cond.instanceMethod y ∈ lw_all) (hs : Cond.selects y.cls y y ∈ lw_all) (hrc : ∀ H, XI S A ν H → ∃ cellB : Cell, H[b]? = some cellB ∧ cellB.vm.isStatics = false ∧ (cxS κ).vm.findClass y.cls = some cellB.cls) (hq : Cond.methodLink own idx y ∈ lw_all) (hW : (rest.map fun v => v.category).sum ≤ 8) (dc : decode cc pc = .ok (.invokevirtual idx, 3))
    (K : ∀ r ν1, post r ν1 → XG κ S A mc ms Q (pc + 3) (ν1, k1, n1) lv (r.toList ++ rest)) : XG κ S A mc ms Q pc (ν, k0, n0) lv (As.reverse ++ .ref b :: rest) := by
  intro H locs ls cells slots ha b' c
  obtain ⟨bb, L, r, ⟨hdd, hL, hc, hin⟩, hm⟩ := hM
  exact x_behind (va_runV (C := y.cls) (b := b) (As := As) (rest := rest) (n := As.length) (nL := (cxC κ).maxLocals) (Ts := lw_all) ⟨h.1.1, h.1.2.1, rfl, h.1.2.2.1, h.1.2.2.2⟩ hm (cwV As.length h.1.2.2.2 (lw_V hq hi hs hin hc) rfl rfl rfl ⟨rfl, hdd⟩ (x_room h.2.2.2.2.2.1 hd hL)) ⟨xBlind S A ν _, hrc H ha.1, fun U hU hWU => x_pre h ha.1 b' U hU hWU⟩ rfl rfl c.1 rfl (by simpa using hW) dc (x_fit (H := H) h ha.2.1 ha.2.2 hk hn)) b' c ha.2.1 ha.2.2 hk hn K
theorem x_callVN (pc : Nat) {b : Nat} {As : List Value} (h : XCx κ cc own S A n mc ms) (hM : xMet κ.2.1 S A d kc nc As.length y (.ref b :: As) ν post) (hd : d < n) (hk : kc + k1 ≤ k0) (hn : nc + n1 ≤ n0) (hi : Cond.instanceMethod y ∈ lw_all) (hs : Cond.selects y.cls y y ∈ lw_all) (hrc : ∀ H, XI S A ν H → ∃ cellB : Cell, H[b]? = some cellB ∧ cellB.vm.isStatics = false ∧ (cxS κ).vm.findClass y.cls = some cellB.cls) (hq : Cond.methodLinkNest own idx y host ∈ lw_tbl) (hW : (rest.map fun v => v.category).sum ≤ 8) (dc : decode cc pc = .ok (.invokevirtual idx, 3))
    (K : ∀ r ν1, post r ν1 → XG κ S A mc ms Q (pc + 3) (ν1, k1, n1) lv (r.toList ++ rest)) : XG κ S A mc ms Q pc (ν, k0, n0) lv (As.reverse ++ .ref b :: rest) := by
  intro H locs ls cells slots ha b' c
  obtain ⟨bb, L, r, ⟨hdd, hL, hc, hin⟩, hm⟩ := hM
  exact x_behind (va_runVN (C := y.cls) (b := b) (As := As) (rest := rest) (n := As.length) (nL := (cxC κ).maxLocals) (Ts := lw_all) ⟨h.1.1, h.1.2.1, rfl, h.1.2.2.1, h.1.2.2.2⟩ hm ⟨va_cnB As.length h.1.2.2.2 (lw_meth hc) rfl rfl rfl (h.2.1.2.1 _ hq rfl) (h.1.2.2.2 _ hin) hdd (x_room h.2.2.2.2.2.1 hd hL), h.1.2.2.2 _ hi, h.1.2.2.2 _ hs⟩ ⟨xBlind S A ν _, hrc H ha.1, fun U hU hWU => x_pre h ha.1 b' U hU hWU⟩ rfl rfl c.1 rfl (by simpa using hW) dc (x_fit (H := H) h ha.2.1 ha.2.2 hk hn)) b' c ha.2.1 ha.2.2 hk hn K
theorem x_callS (pc : Nat) {As : List Value} (h : XCx κ cc own S A n mc ms) (hM : xMet κ.2.1 S A d kc nc As.length y As ν post) (hd : d < n) (hk : kc + k1 ≤ k0) (hn : nc + n1 ≤ n0) (hi : Cond.static y ∈ lw_all) (hq : Cond.methodLink own idx y ∈ lw_all) (hW : (rest.map fun v => v.category).sum ≤ 8) (dc : decode cc pc = .ok (.invokestatic idx, 3))
    (K : ∀ r ν1, post r ν1 → XG κ S A mc ms Q (pc + 3) (ν1, k1, n1) lv (r.toList ++ rest)) : XG κ S A mc ms Q pc (ν, k0, n0) lv (As.reverse ++ rest) := by
  intro H locs ls cells slots ha b' c
  obtain ⟨bb, L, r, ⟨hdd, hL, hc, hin⟩, hm⟩ := hM
  exact x_behind (va_runS (As := As) (rest := rest) (n := As.length) (nL := (cxC κ).maxLocals) (Ts := lw_all) ⟨h.1.1, h.1.2.1, rfl, h.1.2.2.1, h.1.2.2.2⟩ hm (va_cwS As.length h.1.2.2.2 (lw_S hq hi hin hc) rfl rfl rfl hdd (x_room h.2.2.2.2.2.1 hd hL)) ⟨xBlind S A ν _, fun U hU hWU => x_pre h ha.1 b' U hU hWU⟩ rfl rfl c.1 rfl (by simpa using hW) dc (x_fit (H := H) h ha.2.1 ha.2.2 hk hn)) b' c ha.2.1 ha.2.2 hk hn K
theorem x_callSN (pc : Nat) {As : List Value} (h : XCx κ cc own S A n mc ms) (hM : xMet κ.2.1 S A d kc nc As.length y As ν post) (hd : d < n) (hk : kc + k1 ≤ k0) (hn : nc + n1 ≤ n0) (hi : Cond.static y ∈ lw_all) (hq : Cond.methodLinkNest own idx y host ∈ lw_tbl) (hW : (rest.map fun v => v.category).sum ≤ 8) (dc : decode cc pc = .ok (.invokestatic idx, 3))
    (K : ∀ r ν1, post r ν1 → XG κ S A mc ms Q (pc + 3) (ν1, k1, n1) lv (r.toList ++ rest)) : XG κ S A mc ms Q pc (ν, k0, n0) lv (As.reverse ++ rest) := by
  intro H locs ls cells slots ha b' c
  obtain ⟨bb, L, r, ⟨hdd, hL, hc, hin⟩, hm⟩ := hM
  exact x_behind (va_runSN (As := As) (rest := rest) (n := As.length) (nL := (cxC κ).maxLocals) (Ts := lw_all) ⟨h.1.1, h.1.2.1, rfl, h.1.2.2.1, h.1.2.2.2⟩ hm ⟨va_cnB As.length h.1.2.2.2 (lw_meth hc) rfl rfl rfl (h.2.1.2.1 _ hq rfl) (h.1.2.2.2 _ hin) hdd (x_room h.2.2.2.2.2.1 hd hL), h.1.2.2.2 _ hi, trivial⟩ ⟨xBlind S A ν _, fun U hU hWU => x_pre h ha.1 b' U hU hWU⟩ rfl rfl c.1 rfl (by simpa using hW) dc (x_fit (H := H) h ha.2.1 ha.2.2 hk hn)) b' c ha.2.1 ha.2.2 hk hn K
theorem x_callI (pc : Nat) {b : Nat} {As : List Value} (h : XCx κ cc own S A n mc ms) (hM : ∃ (bb : ByteArray) (L : Nat), xWd y bb L none As.length ∧ Met κ.2.1 y (ws_ y bb L none) (rmX d kc nc) (va_Pc (.ref b :: As) (xPre S A ν)) (xQ S A post) kc nc A) (hd : d < n) (hk : kc + k1 ≤ k0) (hn : nc + n1 ≤ n0) (hy : y.name = "<init>") (hi : Cond.instanceMethod y ∈ lw_all) (hq : Cond.methodLink own idx y ∈ lw_all) (hW : (rest.map fun v => v.category).sum ≤ 8) (dc : decode cc pc = .ok (.invokespecial idx, 3))
    (K : ∀ r ν1, post r ν1 → XG κ S A mc ms Q (pc + 3) (ν1, k1, n1) lv (r.toList ++ rest)) : XG κ S A mc ms Q pc (ν, k0, n0) lv (As.reverse ++ .ref b :: rest) := by
  intro H locs ls cells slots ha b' c
  obtain ⟨bb, L, ⟨hdd, hL, hc, hin⟩, hm⟩ := hM
  exact x_behind (va_runI (b := b) (As := As) (rest := rest) (n := As.length) (nL := (cxC κ).maxLocals) (Ts := lw_all) ⟨h.1.1, h.1.2.1, rfl, h.1.2.2.1, h.1.2.2.2⟩ hm (cwI As.length h.1.2.2.2 (lw_meth hc) rfl rfl rfl (h.1.2.2.2 _ hin) (h.1.2.2.2 _ hq) (h.1.2.2.2 _ hi) hy hdd (x_room h.2.2.2.2.2.1 hd hL)) ⟨xBlind S A ν _, fun U hU hWU => x_pre h ha.1 b' U hU hWU⟩ rfl rfl c.1 rfl (by simpa using hW) dc (x_fit (H := H) h ha.2.1 ha.2.2 hk hn)) b' c ha.2.1 ha.2.2 hk hn K
theorem x_callIN (pc : Nat) {b : Nat} {As : List Value} (h : XCx κ cc own S A n mc ms) (hM : ∃ (bb : ByteArray) (L : Nat), xWd y bb L none As.length ∧ Met κ.2.1 y (ws_ y bb L none) (rmX d kc nc) (va_Pc (.ref b :: As) (xPre S A ν)) (xQ S A post) kc nc A) (hd : d < n) (hk : kc + k1 ≤ k0) (hn : nc + n1 ≤ n0) (hy : y.name = "<init>") (hi : Cond.instanceMethod y ∈ lw_all) (hq : Cond.methodLinkNest own idx y host ∈ lw_tbl) (hW : (rest.map fun v => v.category).sum ≤ 8) (dc : decode cc pc = .ok (.invokespecial idx, 3))
    (K : ∀ r ν1, post r ν1 → XG κ S A mc ms Q (pc + 3) (ν1, k1, n1) lv (r.toList ++ rest)) : XG κ S A mc ms Q pc (ν, k0, n0) lv (As.reverse ++ .ref b :: rest) := by
  intro H locs ls cells slots ha b' c
  obtain ⟨bb, L, ⟨hdd, hL, hc, hin⟩, hm⟩ := hM
  exact x_behind (va_runIN (b := b) (As := As) (rest := rest) (n := As.length) (nL := (cxC κ).maxLocals) (Ts := lw_all) ⟨h.1.1, h.1.2.1, rfl, h.1.2.2.1, h.1.2.2.2⟩ hm ⟨va_cnB As.length h.1.2.2.2 (lw_meth hc) rfl rfl rfl (h.2.1.2.1 _ hq rfl) (h.1.2.2.2 _ hin) hdd (x_room h.2.2.2.2.2.1 hd hL), hy, h.1.2.2.2 _ hi⟩ ⟨xBlind S A ν _, fun U hU hWU => x_pre h ha.1 b' U hU hWU⟩ rfl rfl c.1 rfl (by simpa using hW) dc (x_fit (H := H) h ha.2.1 ha.2.2 hk hn)) b' c ha.2.1 ha.2.2 hk hn K
/-- a call by the list's interface: the receiver is an ArrayList -/
theorem x_callF (pc : Nat) {b cnt : Nat} {As : List Value} {x : MethodName} (h : XCx κ cc own S A n mc ms) (hF : va_Fw RJ2 x y (cxS κ)) (hM : xMet κ.2.1 S A d kc nc As.length y (.ref b :: As) ν post) (hd : d < n) (hk : kc + k1 ≤ k0) (hn : nc + n1 ≤ n0) (hxd : x.cls ≠ "java/lang/invoke/MethodHandle" ∧ x.cls ≠ "java/lang/invoke/VarHandle" ∧ (parseMethodDescriptor x.desc).map (fun d => d.parameters.length) = some As.length) (hi : Cond.instanceMethod y ∈ lw_all) (hs : Cond.selects RJ2 x y ∈ lw_all) (hrc : rc ν.2 b = 7) (hq : Cond.methodLink own idx x ∈ lw_all) (hW : (rest.map fun v => v.category).sum ≤ 8) (dc : decode cc pc = .ok (.invokeinterface idx cnt, 5))
    (K : ∀ r ν1, post r ν1 → XG κ S A mc ms Q (pc + 5) (ν1, k1, n1) lv (r.toList ++ rest)) : XG κ S A mc ms Q pc (ν, k0, n0) lv (As.reverse ++ .ref b :: rest) := by
  intro H locs ls cells slots ha b' c
  obtain ⟨bb, L, r, ⟨hdd, hL, hc, hin⟩, hm⟩ := hM
  have hg : GoodIn lw_all (va_wsF own idx RJ2 x y (ws_ y bb L r)) := by
    intro w hw
    rcases List.mem_append.mp hw with e | e
    · simp only [List.mem_cons, List.not_mem_nil, or_false] at e
      rcases e with rfl | rfl | rfl | rfl
      · exact lw_self _ hq
      · exact lw_self _ hs
      · exact lw_self _ hi
      · exact lw_self _ hin
    · exact lw_meth hc w e
  exact x_behind (va_runF (C := RJ2) (h.2.1.1.1 6 _ rfl).2 (b := b) (As := As) (rest := rest) (n := As.length) (nL := (cxC κ).maxLocals) (Ts := lw_all) ⟨h.1.1, h.1.2.1, rfl, h.1.2.2.1, h.1.2.2.2⟩ hm (va_cwF As.length h.1.2.2.2 hg rfl rfl rfl hF hxd (x_room h.2.2.2.2.2.1 hd hL)) ⟨xBlind S A ν _, x_recvR h hrc rfl ha.1, fun U hU hWU => x_pre h ha.1 b' U hU hWU⟩ rfl rfl c.1 rfl (by simpa using hW) dc (x_fit (H := H) h ha.2.1 ha.2.2 hk hn)) b' c ha.2.1 ha.2.2 hk hn K
end XC
/-- a method's end -/
def xRet (κ : Cx) (S : Adr) (A : Nat → Prop) (mc ms : Nat) (Z : State → Prop) (cc : ByteArray) (post : Option Value → XN → Prop) : Prop :=
  (∀ (pc : Nat) (v : Int32) (ν : XN) (k n : Nat) (lv : List (Option Value)) (ty : FieldType), (cxT κ).sig.returnType = some ty → narrow ty (.int v) = .int v → decode cc pc = .ok (.ireturn, 1) → post (some (.int v)) ν → XG κ S A mc ms Z pc (ν, k, n) lv [.int v]) ∧
  (∀ (pc : Nat) (v : Int64) (ν : XN) (k n : Nat) (lv : List (Option Value)), (cxT κ).sig.returnType = some .long → decode cc pc = .ok (.lreturn, 1) → post (some (.long v)) ν → XG κ S A mc ms Z pc (ν, k, n) lv [.long v]) ∧
  (∀ (pc : Nat) (ν : XN) (k n : Nat) (lv : List (Option Value)), (cxT κ).sig.returnType = none → decode cc pc = .ok (.return_, 1) → post none ν → XG κ S A mc ms Z pc (ν, k, n) lv []) ∧
  ∀ (pc : Nat) (v : Option Nat) (ν : XN) (k n : Nat) (lv : List (Option Value)) (ty : FieldType), (cxT κ).sig.returnType = some ty → ((∃ n, ty = .object n) ∨ ∃ t, ty = .array t) → decode cc pc = .ok (.areturn, 1) → post (some (va_rf v)) ν → XG κ S A mc ms Z pc (ν, k, n) lv [va_rf v]
theorem x_ends {κ : Cx} {S : Adr} {A : Nat → Prop} {mc ms : Nat} {cc : ByteArray} {own : String} {n : Nat} {post : Option Value → XN → Prop} (h : XCx κ cc own S A n mc ms) (hlk : (cxT κ).locks = false) : xRet κ S A mc ms (MQ κ.2.2.2.2.2.2.2.1 (xQ S A post) (cxA κ) (cxS κ) mc ms A) cc post := by
  refine ⟨?_, ?_, ?_, ?_⟩
  · intro pc v ν k n lv ty hr hn d hp H locs ls cells slots a b c
    refine W.widen (k := mc) (n := ms) (Nat.le_trans (Nat.le_add_right _ _) a.2.1) (Nat.le_trans (Nat.le_add_right _ _) a.2.2) ?_
    exact W.zret h.1.1 h.1.2.1 hr hn (fun t ht _ => ⟨⟨_, ν, rfl, hp, by rw [ht]; exact a.1⟩, b.F ht⟩) b.2.2 d hlk
  · intro pc v ν k n lv hr d hp H locs ls cells slots a b c
    refine W.widen (k := mc) (n := ms) (Nat.le_trans (Nat.le_add_right _ _) a.2.1) (Nat.le_trans (Nat.le_add_right _ _) a.2.2) ?_
    exact W.lret h.1.1 h.1.2.1 hr (fun t ht _ => ⟨⟨_, ν, rfl, hp, by rw [ht]; exact a.1⟩, b.F ht⟩) b.2.2 d hlk
  · intro pc ν k n lv hr d hp H locs ls cells slots a b c
    refine W.widen (k := mc) (n := ms) (Nat.le_trans (Nat.le_add_right _ _) a.2.1) (Nat.le_trans (Nat.le_add_right _ _) a.2.2) ?_
    exact W.vret h.1.1 h.1.2.1 hr (fun t ht _ => ⟨⟨_, ν, rfl, hp, by rw [ht]; exact a.1⟩, b.F ht⟩) b.2.2 d hlk
  · intro pc v ν k n lv ty hr hty d hp H locs ls cells slots a b c
    refine W.widen (k := mc) (n := ms) (Nat.le_trans (Nat.le_add_right _ _) a.2.1) (Nat.le_trans (Nat.le_add_right _ _) a.2.2) ?_
    exact W.aret h.1.1 h.1.2.1 hr hty (by cases v with | none => exact Or.inl rfl | some x => exact Or.inr ⟨x, rfl⟩) (fun t ht _ => ⟨⟨_, ν, rfl, hp, by rw [ht]; exact a.1⟩, b.F ht⟩) b.2.2 d hlk
/-- a method's contract out of its walk -/
theorem x_start {y : MethodName} {b : ByteArray} {L d mc ms k : Nat} {r : Option FieldType} {l : Launch} {S : Adr} {A : Nat → Prop} {av : List Value} {ν : XN} {post : Option Value → XN → Prop} (hy : plainFor y = true) (hD : FD xT S xcl A) (hw : xWd y b L r k) (hl : (lg_sl av).length ≤ L)
    (body : ∀ (κ : Cx) (Z : State → Prop), XCx κ b y.cls S A d mc ms → (cxT κ).sig.returnType = r → (cxT κ).name = y.name → xRet κ S A mc ms Z b post → XG κ S A mc ms Z 0 (ν, mc, ms) (lvOf L av) []) : Met l y (ws_ y b L r) (rmX d mc ms) (va_Pc av (xPre S A ν)) (xQ S A post) mc ms A := by
  refine va_MetF (cc := b) (maxL := L) (ret := r) hy rfl ?_
  intro p e s m args below meth c s₁ B hml hv
  obtain ⟨rfl, hF, hK, hA, hC, hZ⟩ := hv
  have hts := atoms_spec (ws := ws_ y b L r) B.pre
  have hts : ∀ w ∈ lw_all, w.before _ s = true := fun w h => hts w (List.mem_cons_of_mem _ h)
  have hown : s.vm.findClass y.cls = some m.cls := findClass_of_methodNamed B.named
  have hx : XCx (p, l, e, (headSpec (ws_ y b L r) (rmX d mc ms)).room, s, m, av.toArray, below, meth, c) b y.cls S A d mc ms := ⟨⟨B.exec, B.bytes, hown, hts⟩, hK, hD, hA, hC, rfl, hZ⟩
  have k := body _ _ hx B.returns (name_of_methodNamed B.named B.method).1 (x_ends (post := post) hx B.notSynchronized)
  rw [lg_entry_eq]
  refine k s.heap [] _ 0 0 ⟨hF, by show 0 + mc ≤ mc; omega, by show 0 + ms ≤ ms; omega⟩ va_S.rf ?_
  show LV _ c.maxLocals _
  rw [hml]
  exact LV_entry av hl
theorem x_met {y : MethodName} {b : ByteArray} {L d mc ms k : Nat} {r : Option FieldType} {l : Launch} {S : Adr} {A : Nat → Prop} {av : List Value} {ν : XN} {post : Option Value → XN → Prop} (hy : plainFor y = true) (hD : FD xT S xcl A) (hw : xWd y b L r k) (hl : (lg_sl av).length ≤ L)
    (body : ∀ (κ : Cx) (Z : State → Prop), XCx κ b y.cls S A d mc ms → (cxT κ).sig.returnType = r → (cxT κ).name = y.name → xRet κ S A mc ms Z b post → XG κ S A mc ms Z 0 (ν, mc, ms) (lvOf L av) []) : xMet l S A d mc ms k y av ν post := ⟨b, L, r, hw, x_start hy hD hw hl body⟩
