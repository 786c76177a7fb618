/-! ===== BEGIN words of one list among another's, by their places ===== -/
theorem goodIn_r {big : List Cond} (ws : List Cond) (ps : List Nat) (hp : ws = ps.filterMap (fun i => big[i]?)) (h : ws.all goodWord = true) : GoodIn big ws := by
  intro w hw
  have h1 := List.all_eq_true.mp h w hw
  rw [hp] at hw
  obtain ⟨i, -, hi⟩ := List.mem_filterMap.mp hw
  have hm : w ∈ big := by first | exact List.mem_of_getElem? hi | exact List.getElem?_mem hi
  exact ⟨hm, good_of_word h1⟩
theorem goodIn_app {big a b : List Cond} (ha : GoodIn big a) (hb : GoodIn big b) : GoodIn big (a ++ b) := fun w h => (List.mem_append.mp h).elim (ha w) (hb w)
theorem goodIn_ca {big a b : List Cond} {c : Cond} (ha : GoodIn big (c :: a)) (hb : GoodIn big b) : GoodIn big (c :: (a ++ b)) := fun w h => (List.mem_cons.mp h).elim (fun e => ha w (List.mem_cons.mpr (Or.inl e))) (fun h => (List.mem_append.mp h).elim (fun h => ha w (List.mem_cons.mpr (Or.inr h))) (hb w))
theorem goodIn_sub {big ws : List Cond} (hm : ∀ w ∈ ws, w ∈ big) (h : ws.all goodWord = true) : GoodIn big ws := fun w hw => ⟨hm w hw, good_of_word (List.all_eq_true.mp h w hw)⟩
/-! ===== END ===== -/
/-! ===== BEGIN exceptions that leave a method, and their catching by the caller (launches without stack traces) ===== -/
section VXA
/-! The laws vx_back, vx_callV, vx_callS, vx_callSW, vx_throw0, vx_throwS follow proofs of the library, with one case more: JvmDerived/Free/Laws.lean (Back.of_free), Shelf42/LK1.lean (callV, callS), Shelf/KitTraced.lean (throwNew0V, throwNewS). -/
/-- where a method has thrown q: the class by its name, the cell, what was written, the world -/
def vx_T (XC : String → Addr → State → State → Prop) (st : State) (q : Addr) (t : State) (mc ms : Nat) (free : Addr → Prop) : Prop :=
  ∃ (E : String) (ce : Cell) (L : List Loc), XC E q st t ∧ t.heap[q]? = some ce ∧ ce.vm = .none ∧ st.vm.findClass E = some ce.cls ∧ st.WarmedH t.vm ∧ st.sameButNew ({ t with vm := st.vm } : State) L mc ms ∧ ∀ z ∈ L, free z.base
def vx_Q (Qc : Array Value → State → Outcome → State → Prop) (XC : String → Addr → State → State → Prop) (mc ms : Nat) (free : Addr → Prop) : Array Value → State → Outcome → State → Prop := fun a st o t =>
  (Qc a st o t ∧ ∃ L, FrameEnd st o t L mc ms ∧ ∀ q ∈ L, free q.base) ∨ ∃ q, o = .threw q ∧ vx_T XC st q t mc ms free
/-- a callee that returns or throws -/
def vx_Met (l : Launch) (y : MethodName) (ws : List Cond) (rm : Room) (Pc : Array Value → State → Prop) (Qc : Array Value → State → Outcome → State → Prop) (XC : String → Addr → State → State → Prop) (mc ms : Nat) (free : Addr → Prop) : Prop :=
  MetFree l y (headSpec ws rm) Pc (fun _ _ _ _ _ => True) (vx_Q Qc XC mc ms free)
def vx_Post (XC : String → Addr → State → State → Prop) (mc ms : Nat) (free : Addr → Prop) : Pt → Array Value → Addr → Pt → Prop := fun A a q B =>
  ∃ (g : JFrame) (mk : MethodId) (t : State) (L : List Loc) (E : String) (ce : Cell), B.U.heap = t.heap ∧ B.U.vm = t.vm ∧ XC E q (A.U.calling g mk a) t ∧ t.heap[q]? = some ce ∧ ce.vm = .none ∧ A.U.vm.findClass E = some ce.cls ∧ B.locs = A.locs ++ L ∧ (∀ z ∈ L, free z.base) ∧ B.cells = A.cells + mc ∧ B.slots = A.slots + ms
def vx_Back (l : Launch) (R : Room) (p : Program) (e : Env) (below : List Frame) (s : State) (sargs : Array Value) (y : MethodName) (len W9 : Nat)
    (Pre : Pt → Array Value → Prop) (Post : Pt → Array Value → Option Value → Pt → Prop) (PostX : Pt → Array Value → Addr → Pt → Prop) : Prop :=
  ∀ (m : MethodId) (meth : Method) (c : Code) (A : Pt) (g : JFrame) (ig : Instr) (mk : MethodId) (a : Array Value),
    Stand p l e R s m sargs below meth c A.U A.locs A.cells A.slots → g.method = m → g.locals.size = c.maxLocals → decode c.code g.pc = .ok (ig, len) →
    2 * g.monitorRoom + (g.stack.map fun v => v.category).sum ≤ W9 → A.U.methodNamed? y = some mk → Pre A a →
    (∃ (v : Option Value) (B : Pt), Stand p l e R s m sargs below meth c B.U B.locs B.cells B.slots ∧ Post A a v B ∧
      Steps p.tables e below (doInvoke e (A.U.setTop g) [] mk a).1 (B.U.setTop { g with pc := g.pc + len, stack := v.toList ++ g.stack })) ∨
    (∃ (q : Addr) (B : Pt), Stand p l e R s m sargs below meth c B.U B.locs B.cells B.slots ∧ PostX A a q B ∧
      Steps p.tables e below (doInvoke e (A.U.setTop g) [] mk a).1 ((B.U.setTop g).pushFrame (.throwing q)))
section Payer
variable {l : Launch} {R : Room} {p : Program} {e : Env} {below : List Frame} {s : State} {sargs : Array Value} {y : MethodName} {len W9 : Nat}
theorem vx_back {ws : List Cond} {rm : Room} {Pc : Array Value → State → Prop} {Qc : Array Value → State → Outcome → State → Prop} {XC : String → Addr → State → State → Prop} {mc ms : Nat} {free : Addr → Prop} {bytes : ByteArray} {maxL : Nat} {ret : Option FieldType}
    (hM : vx_Met l y ws rm Pc Qc XC mc ms free) (hblind : FrameBlind Pc) (hrc : rm.cells = mc) (hrs : rm.slots = ms)
    (hframes : rm.frames + 1 ≤ R.frames) (hlocals : W9 + (maxL + 11) + rm.locals ≤ R.locals)
    (hws : ∀ w ∈ ws, ∀ a' U, s.WarmedH U.vm → w.before a' U = true) (hcode : Cond.code y bytes maxL ret ∈ ws) (hinit : ∀ a' U, s.WarmedH U.vm → (Cond.initialized y.cls).before a' U = true) :
    vx_Back l R p e below s sargs y len W9 (PreOf R mc ms Pc) (PostOf Qc mc ms free) (vx_Post XC mc ms free) := by
  intro m meth c A g ig mk a X hg hsize hdg hW hn hp
  have h1 : (headSpec ws rm).pre.before a A.U = true := atoms_intro fun w hw => hws w hw _ _ X.warmed
  have h2 : (Cond.code y bytes maxL ret).before a A.U = true := hws _ hcode _ _ X.warmed
  have h3 : (Cond.initialized y.cls).before a A.U = true := hinit _ _ X.warmed
  have h4 : A.cells + (headSpec ws rm).room.cells ≤ R.cells := by rw [show (headSpec ws rm).room.cells = mc from hrc]; exact hp.1
  have h5 : A.slots + (headSpec ws rm).room.slots ≤ R.slots := by rw [show (headSpec ws rm).room.slots = ms from hrs]; exact hp.2.1
  have hPc : Pc a (A.U.calling g mk a) := hblind _ _ _ _ hp.2.2
  obtain ⟨U, Ls, c0, s0⟩ := A
  dsimp only [Pt.U, Pt.locs, Pt.cells, Pt.slots] at h1 h2 h3 h4 h5 X hn hPc ⊢
  obtain ⟨methY, cY, hmY, hcY, -, hlY, -, -, -, -⟩ := Cond.code_spec hn h2
  obtain ⟨kY, hkY, -⟩ := className_of_methodNamed hn
  have hinitY : kY.init = .initialized := Cond.initialized_spec (findClass_of_methodNamed hn) hkY h3
  have h : At U g.method c below := by rw [hg]; exact X.here
  have hlocals9 : W9 + (maxL + 11) + (headSpec ws rm).room.locals ≤ R.locals := hlocals
  have happ : (headSpec ws rm).appliesLoose y e.platform (U.calling g mk a) = true :=
    Spec.appliesLoose_calling (g := g) h hdg hn hkY hinitY
      (X.room_calling (g := g) (R' := (headSpec ws rm).room) hsize hmY hcY hframes (by rw [hlY]; omega) h4 h5) h1
  obtain ⟨mid, hmid⟩ := h.above
  have hfr : (U.setTop g).frames = (.java g :: mid) ++ below := by rw [State.frames_setTop' g h.top, hmid]; rfl
  obtain ⟨o, s₂, hsteps, -, hend, hq⟩ := Steps.callFree hM p X.admits X.cas X.clock (acts := []) hfr happ hPc trivial
  have hq' : vx_Q Qc XC mc ms free a (U.calling g mk a) o s₂ := hq
  rw [State.frames_setTop' g h.top] at hend
  obtain ⟨g₀, hg0⟩ := Option.isSome_iff_exists.mp h.top
  obtain ⟨r, hr⟩ := State.topJava?_eq_some.mp hg0
  have hr' : (({ U with heap := s₂.heap, slotsUsed := s₂.slotsUsed } : State).setVm s₂.vm).frames = .java g₀ :: r := hr
  rcases hq' with ⟨hqc, L, hfe, hL⟩ | ⟨q, rfl, E, ce, L, hx, hce, hcv, hcl, hW₂, hsm, hL⟩
  · obtain ⟨⟨v, rfl⟩, hW₂, e2, q2, q3, q4, q5, q6⟩ := id hfe
    have e3 : s₂ = ({ (U.calling g mk a).setFrames s₂.frames with heap := s₂.heap, slotsUsed := s₂.slotsUsed } : State).setVm s₂.vm := by
      have : s₂ = ({ s₂ with vm := (U.calling g mk a).vm } : State).setVm s₂.vm := rfl
      rw [e2] at this
      exact this
    obtain ⟨c₂, i₂, len₂, hc₂, hd₂, hf₂⟩ := hend
    have hW' : U.WarmedH s₂.vm := hW₂
    have hcc : c₂ = c := by
      have h1 : s₂.code? g.method = U.code? g.method := by
        rw [State.code?_eq, State.code?_eq, hW'.alike.method?]
      exact Option.some.inj (hc₂.symm.trans (h1.trans h.code))
    subst hcc
    have hlen : len₂ = len := by rw [hdg] at hd₂; cases hd₂; rfl
    subst hlen
    have hs₂ : s₂ = (({ U with heap := s₂.heap, slotsUsed := s₂.slotsUsed } : State).setVm s₂.vm).setTop { g with pc := g.pc + len₂, stack := v.toList ++ g.stack } := by
      refine e3.trans ?_
      rw [hf₂, State.calling_eq h.top, State.setFrames_setFrames, State.setTop_of_frames _ hr', hr]
      rfl
    have hsame : U.sameButNew ({ U with heap := s₂.heap, slotsUsed := s₂.slotsUsed } : State) L mc ms := by
      refine ⟨?_, q2, q3, q4, q5, q6⟩
      obtain ⟨t, ht, -⟩ := State.frames_cons hr
      show ({ U with heap := s₂.heap, slotsUsed := s₂.slotsUsed } : State) = { U.setFrames U.frames with heap := s₂.heap, slotsUsed := s₂.slotsUsed }
      rw [State.setFrames_self ht]
    subst hg
    refine Or.inl ⟨v, ⟨(({ U with heap := s₂.heap, slotsUsed := s₂.slotsUsed } : State).setVm s₂.vm), Ls ++ L, c0 + mc, s0 + ms⟩,
      ⟨X.admits, X.cas, X.clock, X.frames, X.room, X.hears, X.method, X.code, (X.here.setHeapUsed s₂.heap s₂.slotsUsed).setVm hW'.alike, X.tail, State.WarmedH.trans X.warmed hW', X.limits, X.bytes, X.same.trans (hsame.setVm s.vm)⟩,
      ⟨g, mk, s₂, L, rfl, rfl, hqc, rfl, hL, rfl, rfl⟩, ?_⟩
    show Steps p.tables e below _ ((({ U with heap := s₂.heap, slotsUsed := s₂.slotsUsed } : State).setVm s₂.vm).setTop { g with pc := g.pc + len₂, stack := v.toList ++ g.stack })
    rw [← hs₂]
    exact hsteps
  · obtain ⟨e2, q2, q3, q4, q5, q6⟩ := id hsm
    have e3 : s₂ = ({ (U.calling g mk a).setFrames s₂.frames with heap := s₂.heap, slotsUsed := s₂.slotsUsed } : State).setVm s₂.vm := by
      have : s₂ = ({ s₂ with vm := (U.calling g mk a).vm } : State).setVm s₂.vm := rfl
      rw [e2] at this
      exact this
    have hf₂ : s₂.frames = .throwing q :: .java g :: U.frames.tail := hend
    have hW' : U.WarmedH s₂.vm := hW₂
    have hs₂ : s₂ = ((({ U with heap := s₂.heap, slotsUsed := s₂.slotsUsed } : State).setVm s₂.vm).setTop g).pushFrame (.throwing q) := by
      refine e3.trans ?_
      rw [hf₂, State.calling_eq h.top, State.setFrames_setFrames, State.pushFrame, State.frames_setTop _ hr', State.setTop_of_frames _ hr', State.setFrames_setFrames, hr]
      rfl
    have hsame : U.sameButNew ({ U with heap := s₂.heap, slotsUsed := s₂.slotsUsed } : State) L mc ms := by
      refine ⟨?_, q2, q3, q4, q5, q6⟩
      obtain ⟨t, ht, -⟩ := State.frames_cons hr
      show ({ U with heap := s₂.heap, slotsUsed := s₂.slotsUsed } : State) = { U.setFrames U.frames with heap := s₂.heap, slotsUsed := s₂.slotsUsed }
      rw [State.setFrames_self ht]
    subst hg
    refine Or.inr ⟨q, ⟨(({ U with heap := s₂.heap, slotsUsed := s₂.slotsUsed } : State).setVm s₂.vm), Ls ++ L, c0 + mc, s0 + ms⟩,
      ⟨X.admits, X.cas, X.clock, X.frames, X.room, X.hears, X.method, X.code, (X.here.setHeapUsed s₂.heap s₂.slotsUsed).setVm hW'.alike, X.tail, State.WarmedH.trans X.warmed hW', X.limits, X.bytes, X.same.trans (hsame.setVm s.vm)⟩,
      ⟨g, mk, s₂, L, E, ce, rfl, rfl, hx, hce, hcv, hcl, rfl, hL, rfl, rfl⟩, ?_⟩
    show Steps p.tables e below _ (((({ U with heap := s₂.heap, slotsUsed := s₂.slotsUsed } : State).setVm s₂.vm).setTop g).pushFrame (.throwing q))
    rw [← hs₂]
    exact hsteps
end Payer
section Calls
variable {p : Program} {l : Launch} {e : Env} {R : Room} {s : State} {m : MethodId} {args : Array Value} {below : List Frame} {meth : Method} {c : Code} {T : State} {locs : List Loc} {cells slots : Nat}
theorem vx_callV (X : Stand p l e R s m args below meth c T locs cells slots) (hexec : p.tables.exec = Jvm.exec) {own C : String} {index : Nat} {y : MethodName} {bytes : ByteArray} {maxL : Nat} {ret : Option FieldType}
    (hown : s.vm.findClass own = some m.cls) (hlink : (Cond.methodLink own index y).before args s = true) (hinst : (Cond.instanceMethod y).before args s = true) (hsel : (Cond.selects C y y).before args s = true)
    (hcode : (Cond.code y bytes maxL ret).before args s = true) (hy : y.cls ≠ "java/lang/invoke/MethodHandle" ∧ y.cls ≠ "java/lang/invoke/VarHandle")
    {W9 : Nat} {Pre : Pt → Array Value → Prop} {Post : Pt → Array Value → Option Value → Pt → Prop} {PostX : Pt → Array Value → Addr → Pt → Prop} (hK : vx_Back l R p e below s args y 3 W9 Pre Post PostX)
    {b : Addr} {cellB : Cell} (hcell : T.heap[b]? = some cellB) (hobj : cellB.vm.isStatics = false) (hcls : s.vm.findClass C = some cellB.cls)
    {g : JFrame} (hg : g.method = m) (hsize : g.locals.size = c.maxLocals) {argsL rest : List Value} (hlen : ∀ sig, parseMethodDescriptor y.desc = some sig → argsL.length = sig.parameters.length)
    (hstack : g.stack = argsL.reverse ++ .ref b :: rest) (hW : 2 * g.monitorRoom + (rest.map fun v => v.category).sum ≤ W9) (hdg : decode c.code g.pc = .ok (.invokevirtual index, 3))
    (hpre : ∀ vm₁, s.WarmedH vm₁ → Pre ⟨T.setVm vm₁, locs, cells, slots⟩ (Value.ref b :: argsL).toArray) :
    (∃ (v : Option Value) (vm₁ : Vm) (B : Pt), s.WarmedH vm₁ ∧ Stand p l e R s m args below meth c B.U B.locs B.cells B.slots ∧ Post ⟨T.setVm vm₁, locs, cells, slots⟩ (Value.ref b :: argsL).toArray v B ∧
      ∀ target, Steps p.tables e below (B.U.setTop { g with pc := g.pc + 3, stack := v.toList ++ rest }) target → Steps p.tables e below (T.setTop g) target) ∨
    (∃ (q : Addr) (vm₁ : Vm) (B : Pt), s.WarmedH vm₁ ∧ Stand p l e R s m args below meth c B.U B.locs B.cells B.slots ∧ PostX ⟨T.setVm vm₁, locs, cells, slots⟩ (Value.ref b :: argsL).toArray q B ∧
      Steps p.tables e below (T.setTop g) ((B.U.setTop { g with stack := rest }).pushFrame (.throwing q))) := by
  obtain ⟨mk, methM, hnamed, hmethM, hstM, habM⟩ := Cond.instanceMethod_spec hinst
  obtain ⟨methM', cM, hmethM', -, -, -, -, -, -, hsigM⟩ := Cond.code_spec hnamed hcode
  cases hmethM.symm.trans hmethM'
  obtain ⟨c2, r2, m2, q1, q2, q3, q4, kP, hkP, hkPi⟩ := Cond.selects_spec hsel
  cases hcls.symm.trans q1
  cases (State.methodFound?_of_named hnamed hy).symm.trans q2
  cases hnamed.symm.trans q3
  have hselP : selectMethod e.platform s.vm cellB.cls mk = .method mk := by rw [Launch.admits_selectMethod X.admits]; exact q4
  obtain ⟨vm₁, X₁, hstep₁⟩ := X.invokevirtual hexec hown hlink hnamed hmethM hstM hkP hkPi hy (a := b) (cell := cellB) hcell
    (fun z h => by rw [h] at hobj; cases hobj) hselP hmethM habM hkP hkPi (g := g) hg (argsL := argsL) (rest := rest) (hlen _ hsigM) hstack hdg
  rcases hK m meth c ⟨T.setVm vm₁, locs, cells, slots⟩ { g with stack := rest } (.invokevirtual index) mk (Value.ref b :: argsL).toArray X₁ hg hsize hdg hW (X₁.named hnamed) (hpre vm₁ X₁.warmed) with ⟨v, B, X', hpost, hsteps⟩ | ⟨q, B, X', hpost, hsteps⟩
  · exact Or.inl ⟨v, vm₁, B, X₁.warmed, X', hpost, fun target h => hstep₁ _ fun acts => by rw [doInvoke_state]; exact hsteps.trans h⟩
  · exact Or.inr ⟨q, vm₁, B, X₁.warmed, X', hpost, hstep₁ _ fun acts => by rw [doInvoke_state]; exact hsteps⟩
theorem vx_callS (X : Stand p l e R s m args below meth c T locs cells slots) (hexec : p.tables.exec = Jvm.exec) {own : String} {index : Nat} {y : MethodName} {bytes : ByteArray} {maxL : Nat} {ret : Option FieldType}
    (hown : s.vm.findClass own = some m.cls) (hlink : (Cond.methodLink own index y).before args s = true) (hstat : (Cond.static y).before args s = true) (hinit : (Cond.initialized y.cls).before args s = true)
    (hcode : (Cond.code y bytes maxL ret).before args s = true) (hy : y.cls ≠ "java/lang/invoke/MethodHandle" ∧ y.cls ≠ "java/lang/invoke/VarHandle")
    {W9 : Nat} {Pre : Pt → Array Value → Prop} {Post : Pt → Array Value → Option Value → Pt → Prop} {PostX : Pt → Array Value → Addr → Pt → Prop} (hK : vx_Back l R p e below s args y 3 W9 Pre Post PostX)
    {g : JFrame} (hg : g.method = m) (hsize : g.locals.size = c.maxLocals) {argsL rest : List Value} (hlen : ∀ sig, parseMethodDescriptor y.desc = some sig → argsL.length = sig.parameters.length)
    (hstack : g.stack = argsL.reverse ++ rest) (hW : 2 * g.monitorRoom + (rest.map fun v => v.category).sum ≤ W9) (hdg : decode c.code g.pc = .ok (.invokestatic index, 3))
    (hpre : ∀ vm₁, s.WarmedH vm₁ → Pre ⟨T.setVm vm₁, locs, cells, slots⟩ argsL.toArray) :
    (∃ (v : Option Value) (vm₁ : Vm) (B : Pt), s.WarmedH vm₁ ∧ Stand p l e R s m args below meth c B.U B.locs B.cells B.slots ∧ Post ⟨T.setVm vm₁, locs, cells, slots⟩ argsL.toArray v B ∧
      ∀ target, Steps p.tables e below (B.U.setTop { g with pc := g.pc + 3, stack := v.toList ++ rest }) target → Steps p.tables e below (T.setTop g) target) ∨
    (∃ (q : Addr) (vm₁ : Vm) (B : Pt), s.WarmedH vm₁ ∧ Stand p l e R s m args below meth c B.U B.locs B.cells B.slots ∧ PostX ⟨T.setVm vm₁, locs, cells, slots⟩ argsL.toArray q B ∧
      Steps p.tables e below (T.setTop g) ((B.U.setTop { g with stack := rest }).pushFrame (.throwing q))) := by
  obtain ⟨mk, hnamed⟩ := Cond.code_named hcode
  obtain ⟨methM, cM, hmethM, -, -, -, -, -, -, hsigM⟩ := Cond.code_spec hnamed hcode
  have hstatic : methM.isStatic = true := Cond.static_spec hnamed hmethM hstat
  obtain ⟨kP, hkP, -⟩ := className_of_methodNamed hnamed
  have hinitP : kP.init = .initialized := Cond.initialized_spec (findClass_of_methodNamed hnamed) hkP hinit
  obtain ⟨vm₁, X₁, hstep₁⟩ := X.invokestatic hexec hown hlink hnamed hmethM hstatic hkP hinitP hy (g := g) hg (argsL := argsL) (rest := rest) (hlen _ hsigM) hstack hdg
  rcases hK m meth c ⟨T.setVm vm₁, locs, cells, slots⟩ { g with stack := rest } (.invokestatic index) mk argsL.toArray X₁ hg hsize hdg hW (X₁.named hnamed) (hpre vm₁ X₁.warmed) with ⟨v, B, X', hpost, hsteps⟩ | ⟨q, B, X', hpost, hsteps⟩
  · exact Or.inl ⟨v, vm₁, B, X₁.warmed, X', hpost, fun target h => hstep₁ _ fun acts => by rw [doInvoke_state]; exact hsteps.trans h⟩
  · exact Or.inr ⟨q, vm₁, B, X₁.warmed, X', hpost, hstep₁ _ fun acts => by rw [doInvoke_state]; exact hsteps⟩
end Calls
theorem vx_cls {s : State} {T : State} {vm₁ : Vm} {E : String} {k : ClassId} (hW : s.WarmedH vm₁) (h : (T.setVm vm₁).vm.findClass E = some k) : s.vm.findClass E = some k := by
  have h1 : vm₁.findClass E = some k := h
  rw [hW.alike.findClass] at h1
  exact h1
/-- the method's frame g, with q thrown over it -/
def vx_W (p : Program) (l : Launch) (e : Env) (R : Room) (s : State) (m : MethodId) (args : Array Value) (below : List Frame) (meth : Method) (c : Code) (H : Heap) (locs : List Loc) (cells slots : Nat) (Q : State → Prop) (g : JFrame) (q : Addr) : Prop :=
  ∀ T : State, T.heap = H → Stand p l e R s m args below meth c T locs cells slots → ∃ t, Steps p.tables e below ((T.setTop g).pushFrame (.throwing q)) t ∧ Q t
def vx_Run (p : Program) (l : Launch) (e : Env) (R : Room) (s : State) (m : MethodId) (args : Array Value) (below : List Frame) (meth : Method) (c : Code) (H : Heap) (locs : List Loc) (cells slots mc ms : Nat) (g : JFrame) (rest : List Value) (Qa : State → Outcome → State → Prop) (XC : String → Addr → State → State → Prop) (free : Addr → Prop) : Prop :=
  ∀ T : State, T.heap = H → Stand p l e R s m args below meth c T locs cells slots →
    (∃ (v : Option Value) (st₀ t T' : State) (L : List Loc), st₀.heap = H ∧ Stand p l e R s m args below meth c T' (locs ++ L) (cells + mc) (slots + ms) ∧ (∀ q ∈ L, free q.base) ∧ T'.heap = t.heap ∧ T'.vm = t.vm ∧ Qa st₀ (.returned v) t ∧
      Goes p e below T g T' { g with pc := g.pc + 3, stack := v.toList ++ rest }) ∨
    (∃ (q : Addr) (st₀ t T' : State) (L : List Loc) (E : String) (ce : Cell), st₀.heap = H ∧ Stand p l e R s m args below meth c T' (locs ++ L) (cells + mc) (slots + ms) ∧ (∀ z ∈ L, free z.base) ∧ T'.heap = t.heap ∧ T'.vm = t.vm ∧ XC E q st₀ t ∧ t.heap[q]? = some ce ∧ ce.vm = .none ∧ s.vm.findClass E = some ce.cls ∧
      Steps p.tables e below (T.setTop g) ((T'.setTop { g with stack := rest }).pushFrame (.throwing q)))
def vx_X {S : Type} (px : S → Prop) (B : String → Addr → S → State → Prop) (A : Nat → Prop) : String → Addr → State → State → Prop := fun E q st t => ∃ u : S, px u ∧ B E q u t ∧ va_F A st t
section Runs
variable {p : Program} {l : Launch} {e : Env} {R : Room} {s : State} {m : MethodId} {args : Array Value} {below : List Frame} {meth : Method} {c : Code} {H : Heap} {locs : List Loc} {cells slots : Nat}
variable {y : MethodName} {bytes cc : ByteArray} {maxL nL mc ms n index : Nat} {ret : Option FieldType} {ws : List Cond} {rm : Room} {Pc : Array Value → State → Prop} {Qc : Array Value → State → Outcome → State → Prop} {XC : String → Addr → State → State → Prop} {free : Addr → Prop} {Ts : List Cond} {own C : String} {b : Addr} {As rest : List Value} {g : JFrame}
theorem vx_callBack (cb : CallB R s args own index y bytes maxL ret ws rm mc ms n) (hM : vx_Met l y ws rm Pc Qc XC mc ms free) (hbl : FrameBlind Pc) : vx_Back l R p e below s args y 3 8 (PreOf R mc ms Pc) (PostOf Qc mc ms free) (vx_Post XC mc ms free) := by
  obtain ⟨hrc, hrs, hfr, hlo, hws, hcw, -, hini, -⟩ := cb
  exact vx_back (bytes := bytes) (maxL := maxL) (ret := ret) hM hbl hrc hrs hfr hlo hws hcw (fun a' U hW => word_at hW (Or.inl (by first | rfl | simp [Cond.onTables, Cond.keeps, Cond.steady])) hini)
theorem vx_runV (S : CallFix p m c cc nL s args Ts own) (hM : vx_Met l y ws rm Pc Qc XC mc ms free) (cw : CallW R s args own C index y bytes maxL ret ws rm mc ms n) (hp : PreV s H C b Pc As)
    (hg : g.method = m) (hn : As.length = n) (hsize : g.locals.size = nL) (hstack : g.stack = As.reverse ++ .ref b :: rest) (hW : 2 * g.monitorRoom + (rest.map fun v => v.category).sum ≤ 8) (hdg : decode cc g.pc = .ok (.invokevirtual index, 3)) (hf : cells + mc ≤ R.cells ∧ slots + ms ≤ R.slots) :
    vx_Run p l e R s m args below meth c H locs cells slots mc ms g rest (Qc (Value.ref b :: As).toArray) XC free := by
  have hK : vx_Back l R p e below s args y 3 8 (PreOf R mc ms Pc) (PostOf Qc mc ms free) (vx_Post XC mc ms free) := vx_callBack cw.1 hM hp.1
  obtain ⟨⟨-, -, -, -, -, -, hcode, -, hy, hlen, hl⟩, hin, hse⟩ := cw
  obtain ⟨hx, hb, hml, ho, -⟩ := S
  obtain ⟨-, ⟨cellB, hcB, hoB, hclB⟩, hPc⟩ := hp
  intro T hT X
  rcases vx_callV X hx (C := C) (bytes := bytes) (maxL := maxL) (ret := ret) ho hl hin hse hcode hy hK (by rw [hT]; exact hcB) hoB hclB hg (hsize.trans hml.symm) (argsL := As) (rest := rest) (fun sig h => hn.trans (hlen sig h)) hstack hW (by rw [hb]; exact hdg)
    (fun vm₁ hW₁ => ⟨hf.1, hf.2, hPc (T.setVm vm₁) hT hW₁⟩) with ⟨v, vm₁, ⟨U', l2, c2, s2⟩, hW₁, X', ⟨g', mk, t, L, e1, e2, hq, h1, hL, h2, h3⟩, st⟩ | ⟨q, vm₁, ⟨U', l2, c2, s2⟩, hW₁, X', ⟨g', mk, t, L, E, ce, e1, e2, hq, hce, hcv, hcl, h1, hL, h2, h3⟩, st⟩
  · dsimp only [Pt.U, Pt.locs, Pt.cells, Pt.slots] at X' e1 e2 h1 h2 h3 st
    subst h1; subst h2; subst h3
    exact Or.inl ⟨v, (T.setVm vm₁).calling g' mk (Value.ref b :: As).toArray, t, U', L, hT, X', hL, e1, e2, hq, st⟩
  · dsimp only [Pt.U, Pt.locs, Pt.cells, Pt.slots] at X' e1 e2 h1 h2 h3 st hcl
    subst h1; subst h2; subst h3
    exact Or.inr ⟨q, (T.setVm vm₁).calling g' mk (Value.ref b :: As).toArray, t, U', L, E, ce, hT, X', hL, e1, e2, hq, hce, hcv, vx_cls hW₁ hcl, st⟩
theorem vx_runS (S : CallFix p m c cc nL s args Ts own) (hM : vx_Met l y ws rm Pc Qc XC mc ms free) (cw : CallB R s args own index y bytes maxL ret ws rm mc ms n ∧ (Cond.static y).before args s = true) (hp : PreS s H Pc As)
    (hg : g.method = m) (hn : As.length = n) (hsize : g.locals.size = nL) (hstack : g.stack = As.reverse ++ rest) (hW : 2 * g.monitorRoom + (rest.map fun v => v.category).sum ≤ 8) (hdg : decode cc g.pc = .ok (.invokestatic index, 3)) (hf : cells + mc ≤ R.cells ∧ slots + ms ≤ R.slots) :
    vx_Run p l e R s m args below meth c H locs cells slots mc ms g rest (Qc As.toArray) XC free := by
  have hK : vx_Back l R p e below s args y 3 8 (PreOf R mc ms Pc) (PostOf Qc mc ms free) (vx_Post XC mc ms free) := vx_callBack cw.1 hM hp.1
  obtain ⟨⟨-, -, -, -, -, -, hcode, hini, hy, hlen, hl⟩, hstt⟩ := cw
  obtain ⟨hx, hb, hml, ho, -⟩ := S
  intro T hT X
  rcases vx_callS X hx (bytes := bytes) (maxL := maxL) (ret := ret) ho hl hstt hini hcode hy hK hg (hsize.trans hml.symm) (argsL := As) (rest := rest) (fun sig h => hn.trans (hlen sig h)) hstack hW (by rw [hb]; exact hdg)
    (fun vm₁ hW₁ => ⟨hf.1, hf.2, hp.2 (T.setVm vm₁) hT hW₁⟩) with ⟨v, vm₁, ⟨U', l2, c2, s2⟩, hW₁, X', ⟨g', mk, t, L, e1, e2, hq, h1, hL, h2, h3⟩, st⟩ | ⟨q, vm₁, ⟨U', l2, c2, s2⟩, hW₁, X', ⟨g', mk, t, L, E, ce, e1, e2, hq, hce, hcv, hcl, h1, hL, h2, h3⟩, st⟩
  · dsimp only [Pt.U, Pt.locs, Pt.cells, Pt.slots] at X' e1 e2 h1 h2 h3 st
    subst h1; subst h2; subst h3
    exact Or.inl ⟨v, (T.setVm vm₁).calling g' mk As.toArray, t, U', L, hT, X', hL, e1, e2, hq, st⟩
  · dsimp only [Pt.U, Pt.locs, Pt.cells, Pt.slots] at X' e1 e2 h1 h2 h3 st hcl
    subst h1; subst h2; subst h3
    exact Or.inr ⟨q, (T.setVm vm₁).calling g' mk As.toArray, t, U', L, E, ce, hT, X', hL, e1, e2, hq, hce, hcv, vx_cls hW₁ hcl, st⟩
end Runs
section Rows
variable {p : Program} {l : Launch} {e : Env} {R : Room} {s : State} {m : MethodId} {args : Array Value} {below : List Frame} {meth : Method} {c : Code} {H : Heap} {locs : List Loc} {cells slots : Nat} {Q : State → Prop}
variable {mc ms : Nat} {free : Addr → Prop} {A0 A1 : Nat → Prop} {H0 : Heap} {a : Array Value} {pc : Nat} {ls : Array Slot} {st0 rest : List Value}
theorem vx_keep {st₀ t T' : State} {L : List Loc} (h0 : st₀.heap = H) (e1 : T'.heap = t.heap) (hS : va_S A0 H0 H locs) (hA : ∀ q, q < H.size → A1 q → A0 q) (hf : ∀ q, free q → A0 q) (hL : ∀ q ∈ L, free q.base) (hF : va_F A1 st₀ t) :
    H.size ≤ T'.heap.size ∧ (∀ q : Nat, q < H.size → ¬ A1 q → T'.heap[q]? = H[q]?) ∧ va_S A0 H0 T'.heap (locs ++ L) := by
  obtain ⟨hz, hk⟩ := hF
  rw [h0] at hz hk
  exact ⟨by rw [e1]; exact hz, fun q h1 h2 => by rw [e1]; exact hk q h1 h2,
    ⟨Nat.le_trans hS.1 (by rw [e1]; exact hz), fun q h1 h2 => by rw [e1, hk q (Nat.lt_of_lt_of_le h1 hS.1) (fun z => h2 (hA q (Nat.lt_of_lt_of_le h1 hS.1) z))]; exact hS.2.1 q h1 h2, fun q hq => by
      rcases List.mem_append.mp hq with h | h
      · exact hS.2.2 q h
      · exact hf _ (hL q h)⟩⟩
theorem vx_calli {S SX : Type} {post : Int32 → S → Prop} {px : SX → Prop} {B : S → State → Prop} {BX : String → Addr → SX → State → Prop} {AX : Nat → Prop} (hr : vx_Run p l e R s m args below meth c H locs cells slots mc ms (F0 m pc ls st0) rest (va_Qi post B A1 a) (vx_X px BX AX) free) (hS : va_S A0 H0 H locs) (hA : ∀ q, q < H.size → A1 q → A0 q) (hf : ∀ q, free q → A0 q) (hAX : ∀ q, q < H.size → AX q → A0 q)
    (kx : ∀ (E : String) (ce : Cell) (q9 : Addr) (u : SX) (t : State) (H1 : Heap) (locs1 : List Loc), t.heap = H1 → s.vm.Alike t.vm → px u → BX E q9 u t → H.size ≤ H1.size → (∀ q : Nat, q < H.size → ¬ AX q → H1[q]? = H[q]?) → va_S A0 H0 H1 locs1 → H1[q9]? = some ce → ce.vm = .none → s.vm.findClass E = some ce.cls → vx_W p l e R s m args below meth c H1 locs1 (cells + mc) (slots + ms) Q (F0 m pc ls rest) q9)
    (kk : ∀ (r : Int32) (u : S) (t : State) (H1 : Heap) (locs1 : List Loc), t.heap = H1 → s.vm.Alike t.vm → post r u → B u t → H.size ≤ H1.size → (∀ q : Nat, q < H.size → ¬ A1 q → H1[q]? = H[q]?) → va_S A0 H0 H1 locs1 → W p l e R s m args below meth c H1 locs1 (cells + mc) (slots + ms) Q (F0 m (pc + 3) ls (.int r :: rest))) : W p l e R s m args below meth c H locs cells slots Q (F0 m pc ls st0) := by
  intro T hT X
  rcases hr T hT X with ⟨v, st₀, t, T', L, h0, X', hL, e1, e2, ⟨⟨r, u, hv, hp, hb⟩, hF⟩, st⟩ | ⟨q, st₀, t, T', L, E, ce, h0, X', hL, e1, e2, ⟨u, hp, hb, hF⟩, hce, hcv, hcl, st⟩
  · cases hv
    obtain ⟨k1, k2, k3⟩ := vx_keep h0 e1 hS hA hf hL hF
    obtain ⟨t2, a1, b1⟩ := kk r u t T'.heap (locs ++ L) e1.symm (by rw [← e2]; exact X'.warmed.alike) hp hb k1 k2 k3 T' rfl X'
    exact ⟨t2, st t2 a1, b1⟩
  · obtain ⟨k1, k2, k3⟩ := vx_keep h0 e1 hS hAX hf hL hF
    obtain ⟨t2, a1, b1⟩ := kx E ce q u t T'.heap (locs ++ L) e1.symm (by rw [← e2]; exact X'.warmed.alike) hp hb k1 k2 k3 (by rw [e1]; exact hce) hcv hcl T' rfl X'
    exact ⟨t2, st.trans a1, b1⟩
theorem vx_calll {S SX : Type} {post : Int64 → S → Prop} {px : SX → Prop} {B : S → State → Prop} {BX : String → Addr → SX → State → Prop} {AX : Nat → Prop} (hr : vx_Run p l e R s m args below meth c H locs cells slots mc ms (F0 m pc ls st0) rest (va_Ql post B A1 a) (vx_X px BX AX) free) (hS : va_S A0 H0 H locs) (hA : ∀ q, q < H.size → A1 q → A0 q) (hf : ∀ q, free q → A0 q) (hAX : ∀ q, q < H.size → AX q → A0 q)
    (kx : ∀ (E : String) (ce : Cell) (q9 : Addr) (u : SX) (t : State) (H1 : Heap) (locs1 : List Loc), t.heap = H1 → s.vm.Alike t.vm → px u → BX E q9 u t → H.size ≤ H1.size → (∀ q : Nat, q < H.size → ¬ AX q → H1[q]? = H[q]?) → va_S A0 H0 H1 locs1 → H1[q9]? = some ce → ce.vm = .none → s.vm.findClass E = some ce.cls → vx_W p l e R s m args below meth c H1 locs1 (cells + mc) (slots + ms) Q (F0 m pc ls rest) q9)
    (kk : ∀ (r : Int64) (u : S) (t : State) (H1 : Heap) (locs1 : List Loc), t.heap = H1 → s.vm.Alike t.vm → post r u → B u t → H.size ≤ H1.size → (∀ q : Nat, q < H.size → ¬ A1 q → H1[q]? = H[q]?) → va_S A0 H0 H1 locs1 → W p l e R s m args below meth c H1 locs1 (cells + mc) (slots + ms) Q (F0 m (pc + 3) ls (.long r :: rest))) : W p l e R s m args below meth c H locs cells slots Q (F0 m pc ls st0) := by
  intro T hT X
  rcases hr T hT X with ⟨v, st₀, t, T', L, h0, X', hL, e1, e2, ⟨⟨r, u, hv, hp, hb⟩, hF⟩, st⟩ | ⟨q, st₀, t, T', L, E, ce, h0, X', hL, e1, e2, ⟨u, hp, hb, hF⟩, hce, hcv, hcl, st⟩
  · cases hv
    obtain ⟨k1, k2, k3⟩ := vx_keep h0 e1 hS hA hf hL hF
    obtain ⟨t2, a1, b1⟩ := kk r u t T'.heap (locs ++ L) e1.symm (by rw [← e2]; exact X'.warmed.alike) hp hb k1 k2 k3 T' rfl X'
    exact ⟨t2, st t2 a1, b1⟩
  · obtain ⟨k1, k2, k3⟩ := vx_keep h0 e1 hS hAX hf hL hF
    obtain ⟨t2, a1, b1⟩ := kx E ce q u t T'.heap (locs ++ L) e1.symm (by rw [← e2]; exact X'.warmed.alike) hp hb k1 k2 k3 (by rw [e1]; exact hce) hcv hcl T' rfl X'
    exact ⟨t2, st.trans a1, b1⟩
theorem vx_callf {S SX : Type} {post : UInt32 → S → Prop} {px : SX → Prop} {B : S → State → Prop} {BX : String → Addr → SX → State → Prop} {AX : Nat → Prop} (hr : vx_Run p l e R s m args below meth c H locs cells slots mc ms (F0 m pc ls st0) rest (va_Qf post B A1 a) (vx_X px BX AX) free) (hS : va_S A0 H0 H locs) (hA : ∀ q, q < H.size → A1 q → A0 q) (hf : ∀ q, free q → A0 q) (hAX : ∀ q, q < H.size → AX q → A0 q)
    (kx : ∀ (E : String) (ce : Cell) (q9 : Addr) (u : SX) (t : State) (H1 : Heap) (locs1 : List Loc), t.heap = H1 → s.vm.Alike t.vm → px u → BX E q9 u t → H.size ≤ H1.size → (∀ q : Nat, q < H.size → ¬ AX q → H1[q]? = H[q]?) → va_S A0 H0 H1 locs1 → H1[q9]? = some ce → ce.vm = .none → s.vm.findClass E = some ce.cls → vx_W p l e R s m args below meth c H1 locs1 (cells + mc) (slots + ms) Q (F0 m pc ls rest) q9)
    (kk : ∀ (r : UInt32) (u : S) (t : State) (H1 : Heap) (locs1 : List Loc), t.heap = H1 → s.vm.Alike t.vm → post r u → B u t → H.size ≤ H1.size → (∀ q : Nat, q < H.size → ¬ A1 q → H1[q]? = H[q]?) → va_S A0 H0 H1 locs1 → W p l e R s m args below meth c H1 locs1 (cells + mc) (slots + ms) Q (F0 m (pc + 3) ls (.float r :: rest))) : W p l e R s m args below meth c H locs cells slots Q (F0 m pc ls st0) := by
  intro T hT X
  rcases hr T hT X with ⟨v, st₀, t, T', L, h0, X', hL, e1, e2, ⟨⟨r, u, hv, hp, hb⟩, hF⟩, st⟩ | ⟨q, st₀, t, T', L, E, ce, h0, X', hL, e1, e2, ⟨u, hp, hb, hF⟩, hce, hcv, hcl, st⟩
  · cases hv
    obtain ⟨k1, k2, k3⟩ := vx_keep h0 e1 hS hA hf hL hF
    obtain ⟨t2, a1, b1⟩ := kk r u t T'.heap (locs ++ L) e1.symm (by rw [← e2]; exact X'.warmed.alike) hp hb k1 k2 k3 T' rfl X'
    exact ⟨t2, st t2 a1, b1⟩
  · obtain ⟨k1, k2, k3⟩ := vx_keep h0 e1 hS hAX hf hL hF
    obtain ⟨t2, a1, b1⟩ := kx E ce q u t T'.heap (locs ++ L) e1.symm (by rw [← e2]; exact X'.warmed.alike) hp hb k1 k2 k3 (by rw [e1]; exact hce) hcv hcl T' rfl X'
    exact ⟨t2, st.trans a1, b1⟩
theorem vx_calld {S SX : Type} {post : UInt64 → S → Prop} {px : SX → Prop} {B : S → State → Prop} {BX : String → Addr → SX → State → Prop} {AX : Nat → Prop} (hr : vx_Run p l e R s m args below meth c H locs cells slots mc ms (F0 m pc ls st0) rest (va_Qd post B A1 a) (vx_X px BX AX) free) (hS : va_S A0 H0 H locs) (hA : ∀ q, q < H.size → A1 q → A0 q) (hf : ∀ q, free q → A0 q) (hAX : ∀ q, q < H.size → AX q → A0 q)
    (kx : ∀ (E : String) (ce : Cell) (q9 : Addr) (u : SX) (t : State) (H1 : Heap) (locs1 : List Loc), t.heap = H1 → s.vm.Alike t.vm → px u → BX E q9 u t → H.size ≤ H1.size → (∀ q : Nat, q < H.size → ¬ AX q → H1[q]? = H[q]?) → va_S A0 H0 H1 locs1 → H1[q9]? = some ce → ce.vm = .none → s.vm.findClass E = some ce.cls → vx_W p l e R s m args below meth c H1 locs1 (cells + mc) (slots + ms) Q (F0 m pc ls rest) q9)
    (kk : ∀ (r : UInt64) (u : S) (t : State) (H1 : Heap) (locs1 : List Loc), t.heap = H1 → s.vm.Alike t.vm → post r u → B u t → H.size ≤ H1.size → (∀ q : Nat, q < H.size → ¬ A1 q → H1[q]? = H[q]?) → va_S A0 H0 H1 locs1 → W p l e R s m args below meth c H1 locs1 (cells + mc) (slots + ms) Q (F0 m (pc + 3) ls (.double r :: rest))) : W p l e R s m args below meth c H locs cells slots Q (F0 m pc ls st0) := by
  intro T hT X
  rcases hr T hT X with ⟨v, st₀, t, T', L, h0, X', hL, e1, e2, ⟨⟨r, u, hv, hp, hb⟩, hF⟩, st⟩ | ⟨q, st₀, t, T', L, E, ce, h0, X', hL, e1, e2, ⟨u, hp, hb, hF⟩, hce, hcv, hcl, st⟩
  · cases hv
    obtain ⟨k1, k2, k3⟩ := vx_keep h0 e1 hS hA hf hL hF
    obtain ⟨t2, a1, b1⟩ := kk r u t T'.heap (locs ++ L) e1.symm (by rw [← e2]; exact X'.warmed.alike) hp hb k1 k2 k3 T' rfl X'
    exact ⟨t2, st t2 a1, b1⟩
  · obtain ⟨k1, k2, k3⟩ := vx_keep h0 e1 hS hAX hf hL hF
    obtain ⟨t2, a1, b1⟩ := kx E ce q u t T'.heap (locs ++ L) e1.symm (by rw [← e2]; exact X'.warmed.alike) hp hb k1 k2 k3 (by rw [e1]; exact hce) hcv hcl T' rfl X'
    exact ⟨t2, st.trans a1, b1⟩
theorem vx_callv {S SX : Type} {post : S → Prop} {px : SX → Prop} {B : S → State → Prop} {BX : String → Addr → SX → State → Prop} {AX : Nat → Prop} (hr : vx_Run p l e R s m args below meth c H locs cells slots mc ms (F0 m pc ls st0) rest (va_Qv post B A1 a) (vx_X px BX AX) free) (hS : va_S A0 H0 H locs) (hA : ∀ q, q < H.size → A1 q → A0 q) (hf : ∀ q, free q → A0 q) (hAX : ∀ q, q < H.size → AX q → A0 q)
    (kx : ∀ (E : String) (ce : Cell) (q9 : Addr) (u : SX) (t : State) (H1 : Heap) (locs1 : List Loc), t.heap = H1 → s.vm.Alike t.vm → px u → BX E q9 u t → H.size ≤ H1.size → (∀ q : Nat, q < H.size → ¬ AX q → H1[q]? = H[q]?) → va_S A0 H0 H1 locs1 → H1[q9]? = some ce → ce.vm = .none → s.vm.findClass E = some ce.cls → vx_W p l e R s m args below meth c H1 locs1 (cells + mc) (slots + ms) Q (F0 m pc ls rest) q9)
    (kk : ∀ (u : S) (t : State) (H1 : Heap) (locs1 : List Loc), t.heap = H1 → s.vm.Alike t.vm → post u → B u t → H.size ≤ H1.size → (∀ q : Nat, q < H.size → ¬ A1 q → H1[q]? = H[q]?) → va_S A0 H0 H1 locs1 → W p l e R s m args below meth c H1 locs1 (cells + mc) (slots + ms) Q (F0 m (pc + 3) ls (rest))) : W p l e R s m args below meth c H locs cells slots Q (F0 m pc ls st0) := by
  intro T hT X
  rcases hr T hT X with ⟨v, st₀, t, T', L, h0, X', hL, e1, e2, ⟨⟨u, hv, hp, hb⟩, hF⟩, st⟩ | ⟨q, st₀, t, T', L, E, ce, h0, X', hL, e1, e2, ⟨u, hp, hb, hF⟩, hce, hcv, hcl, st⟩
  · cases hv
    obtain ⟨k1, k2, k3⟩ := vx_keep h0 e1 hS hA hf hL hF
    obtain ⟨t2, a1, b1⟩ := kk u t T'.heap (locs ++ L) e1.symm (by rw [← e2]; exact X'.warmed.alike) hp hb k1 k2 k3 T' rfl X'
    exact ⟨t2, st t2 a1, b1⟩
  · obtain ⟨k1, k2, k3⟩ := vx_keep h0 e1 hS hAX hf hL hF
    obtain ⟨t2, a1, b1⟩ := kx E ce q u t T'.heap (locs ++ L) e1.symm (by rw [← e2]; exact X'.warmed.alike) hp hb k1 k2 k3 (by rw [e1]; exact hce) hcv hcl T' rfl X'
    exact ⟨t2, st.trans a1, b1⟩
/-- caught by the row x of this method's table; the rows ahead don't take it -/
theorem vx_catch {own name : String} {E : String} {ce : Cell} {q : Addr} (hown : s.vm.findClass own = some m.cls) (pre : List ExceptionTableEntry) (x : ExceptionTableEntry) (suf : List ExceptionTableEntry) (hsplit : c.exceptionTable.toList = pre ++ x :: suf)
    (hpass : ∀ z ∈ pre, covers z pc = false ∨ (z.catchType ≠ 0 ∧ ∃ nm : String, (Cond.classLink own z.catchType nm).before args s = true ∧ va_Nc E nm s)) (hx : covers x pc = true) (h0 : x.catchType ≠ 0)
    (hlink : (Cond.classLink own x.catchType name).before args s = true) (hcast : (Cond.castable E name).before args s = true) (hcell : H[q]? = some ce) (hv : ce.vm = .none) (hcl : s.vm.findClass E = some ce.cls)
    (kk : W p l e R s m args below meth c H locs cells slots Q (F0 m x.handlerPc ls [.ref q])) : vx_W p l e R s m args below meth c H locs cells slots Q (F0 m pc ls rest) q := by
  intro T hT X
  have hpl : e.platform.magicAccessors = ({} : Platform).magicAccessors := by rw [X.admits.platform]
  obtain ⟨c3, c4, hc3, hc4, hasg⟩ := Cond.castable_spec hcast
  cases Option.some.inj (hc3.symm.trans hcl)
  obtain ⟨c5, hc5, hcl5⟩ := Cond.classLink_spec hown hlink e.platform hpl
  cases Option.some.inj (hc4.symm.trans hc5)
  obtain ⟨vm', X', st⟩ := X.thenCaughtThrough q (g := F0 m pc ls rest) rfl (Steps.refl _) (by rw [hT]; exact hcell) (by rw [hv]; rfl) (by obtain ⟨k9, h9, -⟩ := Vm.findClass_spec hcl; exact ⟨k9, h9⟩) pre x suf hsplit
    (fun z hz => by
      rcases hpass z hz with h | ⟨hz0, nm, hl1, hn1⟩
      · exact Or.inl h
      · obtain ⟨c6, hc6, hcl6⟩ := Cond.classLink_spec hown hl1 e.platform hpl
        obtain ⟨a8, b8, h1, h2, h3⟩ := hn1
        cases Option.some.inj (h1.symm.trans hcl)
        cases Option.some.inj (h2.symm.trans hc6)
        exact Or.inr ⟨hz0, _, hcl6, h3⟩) hx (Or.inr ⟨h0, c4, hcl5, hasg⟩)
  obtain ⟨t, a1, b1⟩ := kk (T.setVm vm') hT X'
  exact ⟨t, st.trans a1, b1⟩
end Rows
section Ends
variable {p : Program} {l : Launch} {e : Env} {R : Room} {s : State} {m : MethodId} {args : Array Value} {below : List Frame} {meth : Method} {c : Code} {H : Heap} {locs : List Loc} {cells slots : Nat} {Q : State → Prop}
variable {mc ms : Nat} {free : Addr → Prop} {A0 A1 : Nat → Prop} {H0 : Heap} {a : Array Value} {ls : Array Slot} {st0 rest : List Value}
variable {Qc : Array Value → State → Outcome → State → Prop} {XC : String → Addr → State → State → Prop}
/-- what a body that may throw owes at its end -/
def vx_MQ (below : List Frame) (Qc : Array Value → State → Outcome → State → Prop) (XC : String → Addr → State → State → Prop) (a : Array Value) (s : State) (mc ms : Nat) (free : Addr → Prop) : State → Prop := fun t =>
  ∃ o, t.status = .running ∧ Ended t below o ∧ vx_Q Qc XC mc ms free a s o t
theorem vx_ret {g : JFrame} {mc ms : Nat} (k : W p l e R s m args below meth c H locs cells slots (MQ below Qc args s mc ms free) g) : W p l e R s m args below meth c H locs cells slots (vx_MQ below Qc XC args s mc ms free) g := by
  intro T hT X
  obtain ⟨t, a1, o, b1, b2, b3, b4⟩ := k T hT X
  exact ⟨t, a1, o, b1, b2, Or.inl ⟨b3, b4⟩⟩
/-- not caught here: it goes on to the caller -/
theorem vx_widen {g : JFrame} {q : Addr} {k n : Nat} (h1 : cells ≤ k) (h2 : slots ≤ n) (kk : vx_W p l e R s m args below meth c H locs k n Q g q) : vx_W p l e R s m args below meth c H locs cells slots Q g q := fun T hT X => kk T hT (stand_widen X h1 h2)
theorem vx_out {pc : Nat} {E : String} {ce : Cell} {q : Addr} {mc ms : Nat} (hout : ∀ x ∈ c.exceptionTable.toList, covers x pc = false) (hlocks : meth.locks = false) (hcell : H[q]? = some ce) (hv : ce.vm = .none) (hcl : s.vm.findClass E = some ce.cls)
    (hx : ∀ t : State, t.heap = H → s.vm.Alike t.vm → XC E q s t) (hf : ∀ z ∈ locs, free z.base) (hc : cells ≤ mc) (hs : slots ≤ ms) :
    vx_W p l e R s m args below meth c H locs cells slots (vx_MQ below Qc XC args s mc ms free) (F0 m pc ls rest) q := by
  intro T hT X
  obtain ⟨st1, hrun, hend, hW, hsm⟩ := X.leaveThrown q (g := F0 m pc ls rest) rfl rfl rfl hout hlocks
  have hcell9 : (T.setFrames (.throwing q :: below)).heap[q]? = some ce := by
    show T.heap[q]? = some ce
    rw [hT]; exact hcell
  exact ⟨_, st1, .threw q, hrun, hend, Or.inr ⟨q, rfl, E, ce, locs, hx _ hT hW.alike, hcell9, hv, hcl, hW, hsm.mono hc hs, hf⟩⟩
theorem vx_frame {U : State} {k n : Nat} (h : s.sameButNew ({ U with vm := s.vm } : State) locs k n) : s.heap.size ≤ U.heap.size ∧ ∀ q : Nat, q < s.heap.size → (∀ z ∈ locs, z.base ≠ q) → U.heap[q]? = s.heap[q]? := by
  obtain ⟨-, h2, -, -, -, h6⟩ := h
  refine ⟨h2, fun q hq hz => ?_⟩
  obtain ⟨c9, e1, e2, e3, e4⟩ := h6 q _ (Array.getElem?_eq_getElem hq)
  have hs : c9.slots = (s.heap[q]).slots := Array.ext_getElem? fun i => e4 i fun hm => hz _ hm rfl
  have h9 : c9 = s.heap[q] := by
    rw [hs] at e2
    exact e2
  have e5 : U.heap[q]? = some c9 := e1
  rw [e5, h9, Array.getElem?_eq_getElem hq]
/-- the words of a throw but the four that speak of the heap -/
def vx_no (w : Cond) : Bool := decide (w ≠ .isRef (.static Bundle.tN "UNASSIGNED_STACK" Bundle.steD)) && decide (w ≠ .isRef (.static Bundle.tN "SUPPRESSED_SENTINEL" Bundle.listD)) && decide (w ≠ .laysStatic Bundle.tN "UNASSIGNED_STACK" Bundle.steD) && decide (w ≠ .laysStatic Bundle.tN "SUPPRESSED_SENTINEL" Bundle.listD)
def vx_at0 (own : String) (ic : Nat) (X : String) (names : List String) : List Cond := (Bundle.ownAtoms0 own ic X names).filter vx_no
def vx_atS (own : String) (ic : Nat) (X : String) (names : List String) : List Cond := (Bundle.ownAtoms own ic X names).filter vx_no
/-- a word that the tables alone decide, or a good one -/
def vx_ot (w : Cond) : Bool := w.onTables || goodWord w
theorem vx_ot_at {args a' : Array Value} {s U : State} {w : Cond} (hW : s.WarmedH U.vm) (hvm : s.vm = U.vm) (hg : vx_ot w = true) (h : w.before args s = true) : w.before a' U = true := by
  simp only [vx_ot, Bool.or_eq_true] at hg
  rcases hg with hg | hg
  · exact va_tabs hg hvm h
  · exact word_at hW (good_of_word hg) h
/-- a list's words: the good ones out of the method's own list, the others by premises of their own -/
theorem vx_hat {args : Array Value} {s : State} {L B : List Cond} (h1 : ∀ w ∈ L.filter goodWord, w.before args s = true) (h2 : ∀ w ∈ L.filter (fun w => !goodWord w), w ∈ B) (h3 : ∀ w ∈ B, w.before args s = true) : ∀ w ∈ L, w.before args s = true := by
  intro w hw
  by_cases g : goodWord w = true
  · exact h1 w (List.mem_filter.mpr ⟨hw, g⟩)
  · refine h3 w (h2 w (List.mem_filter.mpr ⟨hw, ?_⟩))
    show (!goodWord w) = true
    cases hgw : goodWord w
    · rfl
    · exact absurd hgw g
theorem vx_c {args : Array Value} {s : State} {w : Cond} {B : List Cond} (h : w.before args s = true) (t : ∀ w ∈ B, w.before args s = true) : ∀ w' ∈ w :: B, w'.before args s = true := fun w' h' => (List.mem_cons.mp h').elim (fun e => by rw [e]; exact h) (t w')
theorem vx_n {args : Array Value} {s : State} : ∀ w ∈ ([] : List Cond), w.before args s = true := fun _ h => nomatch h
theorem vx_own {args : Array Value} {s : State} {L : List Cond} (h1 : ∀ w ∈ L.filter vx_no, w.before args s = true)
    (hU : (Cond.isRef (.static Bundle.tN "UNASSIGNED_STACK" Bundle.steD)).before args s = true) (hN : (Cond.isRef (.static Bundle.tN "SUPPRESSED_SENTINEL" Bundle.listD)).before args s = true)
    (lU : (Cond.laysStatic Bundle.tN "UNASSIGNED_STACK" Bundle.steD).before args s = true) (lN : (Cond.laysStatic Bundle.tN "SUPPRESSED_SENTINEL" Bundle.listD).before args s = true) : ∀ w ∈ L, w.before args s = true := by
  intro w hw
  by_cases e1 : w = .isRef (.static Bundle.tN "UNASSIGNED_STACK" Bundle.steD)
  · rw [e1]; exact hU
  · by_cases e2 : w = .isRef (.static Bundle.tN "SUPPRESSED_SENTINEL" Bundle.listD)
    · rw [e2]; exact hN
    · by_cases e3 : w = .laysStatic Bundle.tN "UNASSIGNED_STACK" Bundle.steD
      · rw [e3]; exact lU
      · by_cases e4 : w = .laysStatic Bundle.tN "SUPPRESSED_SENTINEL" Bundle.listD
        · rw [e4]; exact lN
        · exact h1 w (List.mem_filter.mpr ⟨hw, by unfold vx_no; rw [decide_eq_true e1, decide_eq_true e2, decide_eq_true e3, decide_eq_true e4]; rfl⟩)
/-- where a static field lies, its class's statics cell in H -/
def vx_L (C n d : String) (A : Nat → Prop) (U : State) (H : Heap) : Prop := ∃ (c : ClassId) (k : Class) (i : Nat) (f : Field) (a : Nat) (cell : Cell), U.vm.findClass C = some c ∧ U.fieldFound? C n d = some (c, k, i, f) ∧ f.isStatic = true ∧ k.statics = some a ∧ H[a]? = some cell ∧ cell.vm.isStatics = true ∧ cell.cls = c ∧ f.slot < cell.slots.size ∧ k.staticTypes[f.slot]? = some f.type ∧ ¬ A a
theorem vx_L.moved {C n d : String} {A : Nat → Prop} {u U : State} {H : Heap} (hvm : u.vm.Alike U.vm) (h : vx_L C n d A u H) : vx_L C n d A U H := by
  obtain ⟨c, k, i, f, a, cell, h1, h2, h3, h4, h5, h6, h7, h8, h9, h10⟩ := h
  obtain ⟨k', hi', he⟩ := State.fieldFound?_setVm hvm h2
  exact ⟨c, k', i, f, a, cell, by rw [hvm.findClass]; exact h1, hi', h3, by rw [he]; exact h4, h5, h6, h7, h8, by rw [he]; exact h9, h10⟩
theorem vx_L.kept {C n d : String} {A : Nat → Prop} {U : State} {H H1 : Heap} (h : vx_L C n d A U H) (hq : ∀ a : Nat, a < H.size → ¬ A a → H1[a]? = H[a]?) : vx_L C n d A U H1 := by
  obtain ⟨c, k, i, f, a, cell, h1, h2, h3, h4, h5, h6, h7, h8, h9, h10⟩ := h
  exact ⟨c, k, i, f, a, cell, h1, h2, h3, h4, by rw [hq a (Array.getElem?_eq_some_iff.mp h5).1 h10]; exact h5, h6, h7, h8, h9, h10⟩
theorem vx_L.narrow {C n d : String} {A B : Nat → Prop} {U : State} {H : Heap} (h : vx_L C n d A U H) (hAB : ∀ q, B q → A q) : vx_L C n d B U H := by
  obtain ⟨c, k, i, f, a, cell, h1, h2, h3, h4, h5, h6, h7, h8, h9, h10⟩ := h
  exact ⟨c, k, i, f, a, cell, h1, h2, h3, h4, h5, h6, h7, h8, h9, fun z => h10 (hAB _ z)⟩
theorem vx_L.word {C n d : String} {A : Nat → Prop} {s : State} {args : Array Value} (h : vx_L C n d A s s.heap) : (Cond.laysStatic C n d).before args s = true := by
  obtain ⟨c, k, i, f, a, cell, h1, h2, h3, h4, h5, h6, h7, h8, h9, -⟩ := h
  show (Cond.laysStatic C n d).holds args s none s [] = true
  exact Cond.laysStatic_of h1 h2 h3 h4 h5 h6 h7 h8 h9
/-- .. and what it holds: null or some reference -/
def vx_Zq (C n d : String) (A : Nat → Prop) (U : State) (H : Heap) : Prop := va_Zq C n d A U H ∧ vx_L C n d A U H
theorem vx_Zq.moved {C n d : String} {A : Nat → Prop} {u U : State} {H : Heap} (hvm : u.vm.Alike U.vm) (h : vx_Zq C n d A u H) : vx_Zq C n d A U H := ⟨va_Zq.moved hvm h.1, vx_L.moved hvm h.2⟩
theorem vx_Zq.kept {C n d : String} {A : Nat → Prop} {U : State} {H H1 : Heap} (h : vx_Zq C n d A U H) (hq : ∀ a : Nat, a < H.size → ¬ A a → H1[a]? = H[a]?) : vx_Zq C n d A U H1 := ⟨va_Zq.kept h.1 hq, vx_L.kept h.2 hq⟩
theorem vx_Zq.narrow {C n d : String} {A B : Nat → Prop} {U : State} {H : Heap} (h : vx_Zq C n d A U H) (hAB : ∀ q, B q → A q) : vx_Zq C n d B U H := ⟨va_Zq.narrow h.1 hAB, vx_L.narrow h.2 hAB⟩
theorem vx_Zqof {args : Array Value} {s : State} {C n d : String} {A : Nat → Prop} (hl : (Cond.laysStatic C n d).before args s = true) (hini : (Cond.initialized C).before args s = true) (h : (Cond.isRef (.static C n d)).before args s = true) (hA : ∀ a : Nat, a < s.heap.size → ¬ A a) : vx_Zq C n d A s s.heap := by
  refine ⟨va_Zqof hl hini h hA, ?_⟩
  obtain ⟨c, k, i, f, a, cell, h1, h2, h3, h4, h5, h6, h7, h8, h9⟩ := Cond.laysStatic_spec hl
  exact ⟨c, k, i, f, a, cell, h1, h2, h3, h4, h5, h6, h7, h8, h9, hA a (Array.getElem?_eq_some_iff.mp h5).1⟩
theorem vx_isRef {C n d : String} {v : Value} {A : Nat → Prop} {s : State} {args : Array Value} (h : va_Z C n d v A s s.heap) (hv : v.isRef = true) : (Cond.isRef (.static C n d)).before args s = true := by
  obtain ⟨cf, kf, fi, f, a, cell, h1, h2, h3, h4, h5, h6, h7, -⟩ := h
  have he : (Term.static C n d).eval args s none [] s = some v := by
    simp [Term.eval, State.fieldNamed?, h1, h2, h4, h5, h6, h7]
  simp only [Cond.before, Cond.holds, Cond.value, he]
  cases v <;> simp_all [Value.isRef]
theorem vx_isRefq {C n d : String} {A : Nat → Prop} {s : State} {args : Array Value} (h : va_Zq C n d A s s.heap) : (Cond.isRef (.static C n d)).before args s = true := by
  rcases h with h | ⟨t, h⟩
  · exact vx_isRef h rfl
  · exact vx_isRef h rfl
/-- the same frame, seen from here: as if the method were called anew in this heap -/
theorem vx_rebase {T : State} (X : Stand p l e R s m args below meth c T locs cells slots) {R' : Room} (hf : R'.frames ≤ R.frames) (hl : R'.locals ≤ R.locals) (hc : cells + R'.cells ≤ R.cells) (hs : slots + R'.slots ≤ R.slots) :
    Stand p l e R' ((T.setVm s.vm).setFrames (.invoking m args :: below)) m args below meth c T [] 0 0 := by
  have htop : (T.setVm s.vm).topJava?.isSome := X.here.top
  have hF : ((T.setVm s.vm).setFrames (.invoking m args :: below)).frames = .invoking m args :: below := State.frames_setFrames _ (State.cur_lt_of_top htop)
  obtain ⟨g₀, hg0⟩ := Option.isSome_iff_exists.mp htop
  obtain ⟨r, hr⟩ := State.topJava?_eq_some.mp hg0
  have hl9 : e.platform.stackLimits (T.setVm s.vm).me = e.platform.stackLimits s.me := X.limits
  have hb9 : (T.setVm s.vm).me.stackBytes = s.me.stackBytes := X.bytes
  refine ⟨X.admits, X.cas, X.clock, hF, ?_, X.hears, X.method, X.code, X.here, X.tail, X.warmed, ?_, ?_, ?_⟩
  · have h := X.room
    have hU : ((T.setVm s.vm).setFrames (.invoking m args :: below)).localsInUse = s.localsInUse := by
      rw [State.localsInUse_invoking hF (meth := meth) (c := c) X.method X.code, State.localsInUse_invoking X.frames X.method X.code]
    simp only [State.hasRoom, Bool.and_eq_true, decide_eq_true_eq] at h ⊢
    obtain ⟨⟨⟨⟨h1, h2, h3, h4, h5, h6⟩, h7⟩, h8⟩, h9⟩ := h
    rw [X.frames, List.length_cons] at h2 h3
    have q1 := X.heapSize
    have q2 := X.used
    simp only [hF, hU, List.length_cons, State.stackLimits_setFrames, State.stackBytes_setFrames, hl9, hb9]
    refine ⟨⟨⟨⟨by omega, by omega, by omega, by omega, by omega, h6⟩, ?_⟩, ?_⟩, X.book⟩
    · show T.heap.size + R'.cells ≤ e.platform.maxCells
      omega
    · show T.slotsUsed + R'.slots ≤ e.platform.maxSlots
      omega
  · rw [State.stackLimits_setFrames]; rfl
  · rw [State.stackBytes_setFrames]; rfl
  · refine ⟨?_, Nat.le_refl _, Nat.le_refl _, ?_, ?_, fun a c9 h9 => ⟨c9, h9, rfl, rfl, fun _ _ => rfl⟩⟩
    · obtain ⟨t, ht, -⟩ := State.frames_cons hr
      show T.setVm s.vm = { ((T.setVm s.vm).setFrames (.invoking m args :: below)).setFrames (T.setVm s.vm).frames with heap := T.heap, slotsUsed := T.slotsUsed }
      rw [State.setFrames_setFrames, State.setFrames_self ht]
      rfl
    · show T.slotsUsed = T.slotsUsed + ((T.heap.toList.drop T.heap.size).map (·.slots.size)).sum
      rw [List.drop_eq_nil_of_le (Nat.le_of_eq Array.length_toList)]
      rfl
    · show ((T.heap.toList.drop T.heap.size).map (·.slots.size)).sum ≤ 0
      rw [List.drop_eq_nil_of_le (Nat.le_of_eq Array.length_toList)]
      exact Nat.le_refl _
/-- 'throw new E()': new; dup; invokespecial; athrow -/
theorem vx_throw0 {cc : ByteArray} {pc : Nat} (hexec : p.tables.exec = Jvm.exec) (hb : c.code = cc) (hl : l.stackTraces = false) {own cls : String} {names : List String} {ik ic mc ms : Nat} {A : Nat → Prop}
    (hown : s.vm.findClass own = some m.cls) (hcls : Bundle.fit cls = true) (hnames : ∀ n ∈ names, Bundle.fit n = true)
    (hk : (Cond.classLink own ik cls).before args s = true) (hini : (Cond.initialized cls).before args s = true) (hat : ∀ w ∈ vx_at0 own ic cls names, w.before args s = true)
    (hgood : ∀ w ∈ Cond.classLink own ik cls :: Cond.initialized cls :: vx_at0 own ic cls names, vx_ot w = true)
    (hU : vx_Zq Bundle.tN "UNASSIGNED_STACK" Bundle.steD A s s.heap) (hN : vx_Zq Bundle.tN "SUPPRESSED_SENTINEL" Bundle.listD A s s.heap) (hS : va_S A s.heap H locs) (hsize : ls.size = c.maxLocals)
    (d0 : decode cc pc = .ok (.new ik, 3)) (d3 : decode cc (pc + 3) = .ok (.dup, 1)) (d4 : decode cc (pc + 4) = .ok (.invokespecial ic, 3)) (d7 : decode cc (pc + 7) = .ok (.athrow, 1))
    (hout : ∀ x ∈ c.exceptionTable.toList, covers x (pc + 7) = false)
    (hRframes : names.length + 3 < R.frames) (hRlocals : (rest.map fun v => v.category).sum + (13 * (names.length + 1) + 42) ≤ R.locals) (hRcells : cells + 1 ≤ R.cells) (hRslots : slots + 6 ≤ R.slots) (hlocks : meth.locks = false)
    (hx : ∀ t : State, s.vm.Alike t.vm → H.size ≤ t.heap.size → (∀ q : Nat, q < H.size → t.heap[q]? = H[q]?) → ∀ q9 : Addr, XC cls q9 s t)
    (hf : ∀ z ∈ locs, free z.base) (hc : cells + 1 ≤ mc) (hs : slots + 6 ≤ ms) :
    W p l e R s m args below meth c H locs cells slots (vx_MQ below Qc XC args s mc ms free) (F0 m pc ls rest) := by
  intro T hT X
  have htr : e.platform.stackTraces = false := (show e.platform.stackTraces = l.stackTraces by rw [X.admits.platform]).trans hl
  have Y := vx_rebase X (R' := { frames := R.frames, locals := R.locals, cells := 1, slots := 6 }) (Nat.le_refl _) (Nat.le_refl _) hRcells hRslots
  obtain ⟨s', hA⟩ : ∃ z, z = (T.setVm s.vm).setFrames (.invoking m args :: below) := ⟨_, rfl⟩
  rw [← hA] at Y
  have hvm : s'.vm = s.vm := by rw [hA]; rfl
  have hhp : s'.heap = H := by rw [hA]; exact hT
  have hW0 : s.WarmedH s'.vm := by rw [hvm]; exact State.WarmedH.refl s
  have hat' : ∀ w ∈ vx_at0 own ic cls names, w.before args s' = true := fun w hw => vx_ot_at hW0 hvm.symm (hgood w (List.mem_cons_of_mem _ (List.mem_cons_of_mem _ hw))) (hat w hw)
  have hk' : (Cond.classLink own ik cls).before args s' = true := vx_ot_at hW0 hvm.symm (hgood _ List.mem_cons_self) hk
  have hini' : (Cond.initialized cls).before args s' = true := vx_ot_at hW0 hvm.symm (hgood _ (List.mem_cons_of_mem _ List.mem_cons_self)) hini
  have hU' : vx_Zq Bundle.tN "UNASSIGNED_STACK" Bundle.steD A s' s'.heap := by rw [hhp]; exact vx_Zq.moved hW0.alike (hU.kept hS.2.1)
  have hN' : vx_Zq Bundle.tN "SUPPRESSED_SENTINEL" Bundle.listD A s' s'.heap := by rw [hhp]; exact vx_Zq.moved hW0.alike (hN.kept hS.2.1)
  have h : ∀ w ∈ Bundle.ownAtoms0 own ic cls names, w.before args s' = true := vx_own hat' (vx_isRefq hU'.1) (vx_isRefq hN'.1) hU'.2.word hN'.2.word
  have hown' : s'.vm.findClass own = some m.cls := by rw [hvm]; exact hown
  have hins : (Cond.instantiable cls 6).before args s' = true := h _ (by simp [Bundle.ownAtoms0])
  obtain ⟨vm₁, cX, kX, hfX, hkX, -, -, X₁, st1⟩ := Y.newCold hexec (own := own) (C := cls) (index := ik) (n := 6) hown' hk' hins hini'
    (g := F0 m pc ls rest) rfl (by rw [hb]; exact d0) (Nat.le_refl _) (Nat.le_refl _)
  generalize hT1 : (T.setVm vm₁).pushCell { cls := cX, slots := kX.instanceTypes.map defaultValue, vm := .none } = T1 at X₁ st1
  have hcat : (Value.ref T.heap.size).category = 1 := rfl
  have hcellA : T1.heap[T.heap.size]? = some (freshCell cX kX) := by rw [← hT1]; exact State.heap_pushCell_size _ _
  have d3' : decode c.code (pc + 3) = .ok (.dup, 1) := by rw [hb]; exact d3
  obtain ⟨U, hsteps, hrun, hend, hW, hsame, ce, hce, hO⟩ := X₁.ctorThrow0 hexec htr (own := own) (cls := cls) (names := names) (ic := ic) hown' hcls hnames h (fun x hx => nomatch hx) hfX hkX hcellA (by rw [hhp, hT]; exact Nat.le_refl _)
    (g := { method := m, pc := pc + 4, locals := ls, stack := .ref T.heap.size :: .ref T.heap.size :: rest, locked := none }) rfl hsize rfl rfl (rest := rest) rfl
    (by rw [hb]; exact d4) (by rw [hb]; exact d7) hout hRframes (by simp only [List.map_cons, List.sum_cons, hcat]; omega) hlocks
  obtain ⟨f1, f2⟩ := vx_frame hsame
  rw [hhp] at f1 f2
  have hWs : s.WarmedH U.vm := State.WarmedH.trans hW0 hW
  have hcl : s.vm.findClass cls = some ce.cls := by
    have h9 := hO.cls
    rw [hvm] at h9
    exact h9
  have hall : s.sameButNew ({ U with vm := s.vm } : State) locs mc ms := by
    subst hA
    obtain ⟨e1, e2⟩ := hsame
    rw [State.setFrames_setFrames] at e1
    have h2 : (T.setVm s.vm).sameButNew ({ U with vm := s.vm } : State) [] (0 + 1) (0 + 6) := ⟨e1, e2⟩
    have h3 := X.same.trans h2
    rw [List.append_nil] at h3
    exact h3.mono hc hs
  refine ⟨U, ?_, .threw T.heap.size, hrun, hend, Or.inr ⟨T.heap.size, rfl, cls, ce, locs, hx U hWs.alike f1 (fun q hq => f2 q hq (fun z hz => nomatch hz)) _, hce, hO.vm, hcl, hWs, hall, hf⟩⟩
  refine st1 _ ?_
  show Steps p.tables e below (T1.setTop { method := m, pc := pc + 3, locals := ls, stack := .ref T.heap.size :: rest, locked := none }) _
  jvm_step X₁.here [X₁.here.top, hexec, d3', Value.category]
  exact hsteps
/-- 'throw new E("text")': new; dup; ldc; invokespecial; athrow -/
theorem vx_throwS {cc : ByteArray} {pc : Nat} (hexec : p.tables.exec = Jvm.exec) (hb : c.code = cc) (hl : l.stackTraces = false) {own cls text : String} {names : List String} {ik is ic mc ms sa : Nat} {A : Nat → Prop}
    (hown : s.vm.findClass own = some m.cls) (hcls : Bundle.fit cls = true) (hnames : ∀ n ∈ names, Bundle.fit n = true)
    (hk : (Cond.classLink own ik cls).before args s = true) (hini : (Cond.initialized cls).before args s = true) (hstr : vk_R own is text sa s) (hat : ∀ w ∈ vx_atS own ic cls names, w.before args s = true)
    (hgood : ∀ w ∈ Cond.classLink own ik cls :: Cond.initialized cls :: vx_atS own ic cls names, vx_ot w = true)
    (hU : vx_Zq Bundle.tN "UNASSIGNED_STACK" Bundle.steD A s s.heap) (hN : vx_Zq Bundle.tN "SUPPRESSED_SENTINEL" Bundle.listD A s s.heap) (hS : va_S A s.heap H locs) (hsize : ls.size = c.maxLocals)
    (d0 : decode cc pc = .ok (.new ik, 3)) (d3 : decode cc (pc + 3) = .ok (.dup, 1)) (d4 : decode cc (pc + 4) = .ok (.ldc is, 2)) (d6 : decode cc (pc + 6) = .ok (.invokespecial ic, 3)) (d9 : decode cc (pc + 9) = .ok (.athrow, 1))
    (hout : ∀ x ∈ c.exceptionTable.toList, covers x (pc + 9) = false)
    (hRframes : names.length + 3 < R.frames) (hRlocals : (rest.map fun v => v.category).sum + (13 * (names.length + 1) + 43) ≤ R.locals) (hRcells : cells + 1 ≤ R.cells) (hRslots : slots + 6 ≤ R.slots) (hlocks : meth.locks = false)
    (hx : ∀ t : State, s.vm.Alike t.vm → H.size ≤ t.heap.size → (∀ q : Nat, q < H.size → t.heap[q]? = H[q]?) → ∀ q9 : Addr, XC cls q9 s t)
    (hf : ∀ z ∈ locs, free z.base) (hc : cells + 1 ≤ mc) (hs : slots + 6 ≤ ms) :
    W p l e R s m args below meth c H locs cells slots (vx_MQ below Qc XC args s mc ms free) (F0 m pc ls rest) := by
  intro T hT X
  have htr : e.platform.stackTraces = false := (show e.platform.stackTraces = l.stackTraces by rw [X.admits.platform]).trans hl
  have Y := vx_rebase X (R' := { frames := R.frames, locals := R.locals, cells := 1, slots := 6 }) (Nat.le_refl _) (Nat.le_refl _) hRcells hRslots
  obtain ⟨s', hA⟩ : ∃ z, z = (T.setVm s.vm).setFrames (.invoking m args :: below) := ⟨_, rfl⟩
  rw [← hA] at Y
  have hvm : s'.vm = s.vm := by rw [hA]; rfl
  have hhp : s'.heap = H := by rw [hA]; exact hT
  have hW0 : s.WarmedH s'.vm := by rw [hvm]; exact State.WarmedH.refl s
  have hat' : ∀ w ∈ vx_atS own ic cls names, w.before args s' = true := fun w hw => vx_ot_at hW0 hvm.symm (hgood w (List.mem_cons_of_mem _ (List.mem_cons_of_mem _ hw))) (hat w hw)
  have hk' : (Cond.classLink own ik cls).before args s' = true := vx_ot_at hW0 hvm.symm (hgood _ List.mem_cons_self) hk
  have hini' : (Cond.initialized cls).before args s' = true := vx_ot_at hW0 hvm.symm (hgood _ (List.mem_cons_of_mem _ List.mem_cons_self)) hini
  have hU' : vx_Zq Bundle.tN "UNASSIGNED_STACK" Bundle.steD A s' s'.heap := by rw [hhp]; exact vx_Zq.moved hW0.alike (hU.kept hS.2.1)
  have hN' : vx_Zq Bundle.tN "SUPPRESSED_SENTINEL" Bundle.listD A s' s'.heap := by rw [hhp]; exact vx_Zq.moved hW0.alike (hN.kept hS.2.1)
  have h : ∀ w ∈ Bundle.ownAtoms own ic cls names, w.before args s' = true := vx_own hat' (vx_isRefq hU'.1) (vx_isRefq hN'.1) hU'.2.word hN'.2.word
  have hown' : s'.vm.findClass own = some m.cls := by rw [hvm]; exact hown
  have hins : (Cond.instantiable cls 6).before args s' = true := h _ (by simp [Bundle.ownAtoms])
  obtain ⟨vm₁, cX, kX, hfX, hkX, -, -, X₁, st1⟩ := Y.newCold hexec (own := own) (C := cls) (index := ik) (n := 6) hown' hk' hins hini'
    (g := F0 m pc ls rest) rfl (by rw [hb]; exact d0) (Nat.le_refl _) (Nat.le_refl _)
  generalize hT1 : (T.setVm vm₁).pushCell { cls := cX, slots := kX.instanceTypes.map defaultValue, vm := .none } = T1 at X₁ st1
  have hcat : (Value.ref T.heap.size).category = 1 := rfl
  have hcellA : T1.heap[T.heap.size]? = some (freshCell cX kX) := by rw [← hT1]; exact State.heap_pushCell_size _ _
  have d3' : decode c.code (pc + 3) = .ok (.dup, 1) := by rw [hb]; exact d3
  have d4' : decode c.code (pc + 4) = .ok (.ldc is, 2) := by rw [hb]; exact d4
  have hstr' : vk_R own is text sa s' := vk_R.warm hW0 hstr
  obtain ⟨U, hsteps, hrun, hend, hW, hsame, ce, hce, hO⟩ := X₁.ctorThrowS hexec htr (own := own) (cls := cls) (names := names) (ic := ic) hown' hcls hnames h (fun x hx => nomatch hx) hfX hkX hcellA (by rw [hhp, hT]; exact Nat.le_refl _) (msg := .ref sa) rfl
    (g := { method := m, pc := pc + 6, locals := ls, stack := .ref sa :: .ref T.heap.size :: .ref T.heap.size :: rest, locked := none }) rfl hsize rfl rfl (rest := rest) rfl
    (by rw [hb]; exact d6) (by rw [hb]; exact d9) hout hRframes (by simp only [List.map_cons, List.sum_cons, hcat]; omega) hlocks
  obtain ⟨f1, f2⟩ := vx_frame hsame
  rw [hhp] at f1 f2
  have hWs : s.WarmedH U.vm := State.WarmedH.trans hW0 hW
  have hcl : s.vm.findClass cls = some ce.cls := by
    have h9 := hO.cls
    rw [hvm] at h9
    exact h9
  have hall : s.sameButNew ({ U with vm := s.vm } : State) locs mc ms := by
    subst hA
    obtain ⟨e1, e2⟩ := hsame
    rw [State.setFrames_setFrames] at e1
    have h2 : (T.setVm s.vm).sameButNew ({ U with vm := s.vm } : State) [] (0 + 1) (0 + 6) := ⟨e1, e2⟩
    have h3 := X.same.trans h2
    rw [List.append_nil] at h3
    exact h3.mono hc hs
  refine ⟨U, ?_, .threw T.heap.size, hrun, hend, Or.inr ⟨T.heap.size, rfl, cls, ce, locs, hx U hWs.alike f1 (fun q hq => f2 q hq (fun z hz => nomatch hz)) _, hce, hO.vm, hcl, hWs, hall, hf⟩⟩
  refine st1 _ ?_
  show Steps p.tables e below (T1.setTop { method := m, pc := pc + 3, locals := ls, stack := .ref T.heap.size :: rest, locked := none }) _
  jvm_step X₁.here [X₁.here.top, hexec, d3', Value.category]
  exact X₁.ldcString hexec (own := own) (text := text) (index := is) (a := sa) hown' hstr'.1 hstr'.2
    (g := { method := m, pc := pc + 4, locals := ls, stack := .ref T.heap.size :: .ref T.heap.size :: rest, locked := none }) rfl d4' _ hsteps
/-- 'throw new E("text")', the text by a wide index -/
theorem vx_throwSW {cc : ByteArray} {pc : Nat} (hexec : p.tables.exec = Jvm.exec) (hb : c.code = cc) (hl : l.stackTraces = false) {own cls text : String} {names : List String} {ik is ic mc ms sa : Nat} {A : Nat → Prop}
    (hown : s.vm.findClass own = some m.cls) (hcls : Bundle.fit cls = true) (hnames : ∀ n ∈ names, Bundle.fit n = true)
    (hk : (Cond.classLink own ik cls).before args s = true) (hini : (Cond.initialized cls).before args s = true) (hstr : vk_R own is text sa s) (hat : ∀ w ∈ vx_atS own ic cls names, w.before args s = true)
    (hgood : ∀ w ∈ Cond.classLink own ik cls :: Cond.initialized cls :: vx_atS own ic cls names, vx_ot w = true)
    (hU : vx_Zq Bundle.tN "UNASSIGNED_STACK" Bundle.steD A s s.heap) (hN : vx_Zq Bundle.tN "SUPPRESSED_SENTINEL" Bundle.listD A s s.heap) (hS : va_S A s.heap H locs) (hsize : ls.size = c.maxLocals)
    (d0 : decode cc pc = .ok (.new ik, 3)) (d3 : decode cc (pc + 3) = .ok (.dup, 1)) (d4 : decode cc (pc + 4) = .ok (.ldc_w is, 3)) (d7 : decode cc (pc + 7) = .ok (.invokespecial ic, 3)) (d10 : decode cc (pc + 10) = .ok (.athrow, 1))
    (hout : ∀ x ∈ c.exceptionTable.toList, covers x (pc + 10) = false)
    (hRframes : names.length + 3 < R.frames) (hRlocals : (rest.map fun v => v.category).sum + (13 * (names.length + 1) + 43) ≤ R.locals) (hRcells : cells + 1 ≤ R.cells) (hRslots : slots + 6 ≤ R.slots) (hlocks : meth.locks = false)
    (hx : ∀ t : State, s.vm.Alike t.vm → H.size ≤ t.heap.size → (∀ q : Nat, q < H.size → t.heap[q]? = H[q]?) → ∀ q9 : Addr, XC cls q9 s t)
    (hf : ∀ z ∈ locs, free z.base) (hc : cells + 1 ≤ mc) (hs : slots + 6 ≤ ms) :
    W p l e R s m args below meth c H locs cells slots (vx_MQ below Qc XC args s mc ms free) (F0 m pc ls rest) := by
  intro T hT X
  have htr : e.platform.stackTraces = false := (show e.platform.stackTraces = l.stackTraces by rw [X.admits.platform]).trans hl
  have Y := vx_rebase X (R' := { frames := R.frames, locals := R.locals, cells := 1, slots := 6 }) (Nat.le_refl _) (Nat.le_refl _) hRcells hRslots
  obtain ⟨s', hA⟩ : ∃ z, z = (T.setVm s.vm).setFrames (.invoking m args :: below) := ⟨_, rfl⟩
  rw [← hA] at Y
  have hvm : s'.vm = s.vm := by rw [hA]; rfl
  have hhp : s'.heap = H := by rw [hA]; exact hT
  have hW0 : s.WarmedH s'.vm := by rw [hvm]; exact State.WarmedH.refl s
  have hat' : ∀ w ∈ vx_atS own ic cls names, w.before args s' = true := fun w hw => vx_ot_at hW0 hvm.symm (hgood w (List.mem_cons_of_mem _ (List.mem_cons_of_mem _ hw))) (hat w hw)
  have hk' : (Cond.classLink own ik cls).before args s' = true := vx_ot_at hW0 hvm.symm (hgood _ List.mem_cons_self) hk
  have hini' : (Cond.initialized cls).before args s' = true := vx_ot_at hW0 hvm.symm (hgood _ (List.mem_cons_of_mem _ List.mem_cons_self)) hini
  have hU' : vx_Zq Bundle.tN "UNASSIGNED_STACK" Bundle.steD A s' s'.heap := by rw [hhp]; exact vx_Zq.moved hW0.alike (hU.kept hS.2.1)
  have hN' : vx_Zq Bundle.tN "SUPPRESSED_SENTINEL" Bundle.listD A s' s'.heap := by rw [hhp]; exact vx_Zq.moved hW0.alike (hN.kept hS.2.1)
  have h : ∀ w ∈ Bundle.ownAtoms own ic cls names, w.before args s' = true := vx_own hat' (vx_isRefq hU'.1) (vx_isRefq hN'.1) hU'.2.word hN'.2.word
  have hown' : s'.vm.findClass own = some m.cls := by rw [hvm]; exact hown
  have hins : (Cond.instantiable cls 6).before args s' = true := h _ (by simp [Bundle.ownAtoms])
  obtain ⟨vm₁, cX, kX, hfX, hkX, -, -, X₁, st1⟩ := Y.newCold hexec (own := own) (C := cls) (index := ik) (n := 6) hown' hk' hins hini'
    (g := F0 m pc ls rest) rfl (by rw [hb]; exact d0) (Nat.le_refl _) (Nat.le_refl _)
  generalize hT1 : (T.setVm vm₁).pushCell { cls := cX, slots := kX.instanceTypes.map defaultValue, vm := .none } = T1 at X₁ st1
  have hcat : (Value.ref T.heap.size).category = 1 := rfl
  have hcellA : T1.heap[T.heap.size]? = some (freshCell cX kX) := by rw [← hT1]; exact State.heap_pushCell_size _ _
  have d3' : decode c.code (pc + 3) = .ok (.dup, 1) := by rw [hb]; exact d3
  have d4' : decode c.code (pc + 4) = .ok (.ldc_w is, 3) := by rw [hb]; exact d4
  have hstr' : vk_R own is text sa s' := vk_R.warm hW0 hstr
  obtain ⟨U, hsteps, hrun, hend, hW, hsame, ce, hce, hO⟩ := X₁.ctorThrowS hexec htr (own := own) (cls := cls) (names := names) (ic := ic) hown' hcls hnames h (fun x hx => nomatch hx) hfX hkX hcellA (by rw [hhp, hT]; exact Nat.le_refl _) (msg := .ref sa) rfl
    (g := { method := m, pc := pc + 7, locals := ls, stack := .ref sa :: .ref T.heap.size :: .ref T.heap.size :: rest, locked := none }) rfl hsize rfl rfl (rest := rest) rfl
    (by rw [hb]; exact d7) (by rw [hb]; exact d10) hout hRframes (by simp only [List.map_cons, List.sum_cons, hcat]; omega) hlocks
  obtain ⟨f1, f2⟩ := vx_frame hsame
  rw [hhp] at f1 f2
  have hWs : s.WarmedH U.vm := State.WarmedH.trans hW0 hW
  have hcl : s.vm.findClass cls = some ce.cls := by
    have h9 := hO.cls
    rw [hvm] at h9
    exact h9
  have hall : s.sameButNew ({ U with vm := s.vm } : State) locs mc ms := by
    subst hA
    obtain ⟨e1, e2⟩ := hsame
    rw [State.setFrames_setFrames] at e1
    have h2 : (T.setVm s.vm).sameButNew ({ U with vm := s.vm } : State) [] (0 + 1) (0 + 6) := ⟨e1, e2⟩
    have h3 := X.same.trans h2
    rw [List.append_nil] at h3
    exact h3.mono hc hs
  refine ⟨U, ?_, .threw T.heap.size, hrun, hend, Or.inr ⟨T.heap.size, rfl, cls, ce, locs, hx U hWs.alike f1 (fun q hq => f2 q hq (fun z hz => nomatch hz)) _, hce, hO.vm, hcl, hWs, hall, hf⟩⟩
  refine st1 _ ?_
  show Steps p.tables e below (T1.setTop { method := m, pc := pc + 3, locals := ls, stack := .ref T.heap.size :: rest, locked := none }) _
  jvm_step X₁.here [X₁.here.top, hexec, d3', Value.category]
  exact X₁.ldcStringW hexec (own := own) (text := text) (index := is) (a := sa) hown' hstr'.1 hstr'.2
    (g := { method := m, pc := pc + 4, locals := ls, stack := .ref T.heap.size :: .ref T.heap.size :: rest, locked := none }) rfl d4' _ hsteps
end Ends
section Bodies
variable {l : Launch}
theorem vx_ofW {y : MethodName} {ws ws' : List Cond} {rm : Room} {Pc : Array Value → State → Prop} {Qc : Array Value → State → Outcome → State → Prop} {XC : String → Addr → State → State → Prop} {mc ms : Nat} {free : Addr → Prop} {cc : ByteArray} {maxL : Nat} {ret : Option FieldType}
    (hy : plainName y.cls = true) (hw : ws = Cond.code y cc maxL ret :: ws')
    (body : ∀ p e s m args below meth c s₁, BodyLoose p l y (headSpec ws rm) cc maxL ret e s m args below meth c s₁ → c.maxLocals = maxL → (∀ x ∈ c.exceptionTable.toList, False) → Pc args s →
      W p l e (headSpec ws rm).room s m args below meth c s.heap [] 0 0 (vx_MQ below Qc XC args s mc ms free) (entryFrame m args maxL)) : vx_Met l y ws rm Pc Qc XC mc ms free := by
  refine MetFree.of_bodyS (code := cc) (maxLocals := maxL) (ret := ret) hy ?_ ?_
  · intro args s m h hn
    obtain ⟨meth, c, h1, h2, h3, h4, h5, h6, -, -⟩ := Cond.code_spec hn (atoms_spec (ws := ws) h _ (by rw [hw]; exact List.mem_cons_self))
    exact ⟨meth, c, h1, h2, h3, h4, h5, h6⟩
  · intro p e s m args below meth c s₁ B hml hP _
    have hh0 : s₁.heap = s.heap := by rw [B.state]; rfl
    have ht : ∀ x ∈ c.exceptionTable.toList, False := by
      obtain ⟨meth9, c9, h1, h2, -, -, -, -, h7, -⟩ := Cond.code_spec B.named (atoms_spec (ws := ws) B.pre _ (by rw [hw]; exact List.mem_cons_self))
      cases Option.some.inj (h1.symm.trans B.method)
      cases Option.some.inj (h2.symm.trans (Stand.of_body B).code)
      intro x hx
      rw [Array.isEmpty_iff.mp h7] at hx
      cases hx
    obtain ⟨t, a1, o, b1, b2, b3⟩ := body p e s m args below meth c s₁ B hml ht hP s₁ hh0 (Stand.of_body B)
    exact ⟨t, o, a1, b1, b2, b3⟩
/-- the table of a body with handlers -/
theorem vx_table {p : Program} {x y : MethodName} {S : Spec} {cc bytes : ByteArray} {maxL maxL' : Nat} {ret ret' : Option FieldType} {e : Env} {s s₁ : State} {m : MethodId} {args : Array Value} {below : List Frame} {meth : Method} {c : Code} {hh : List (Nat × Nat × Nat × Nat)}
    (B : BodyLoose p l y S cc maxL ret e s m args below meth c s₁) (h : (Cond.codeWith y bytes maxL' ret' hh).before args s = true) : c.exceptionTable.toList = tableOf hh := by
  obtain ⟨m9, meth9, c9, hn9, h1, h2, -, -, h6, -⟩ := Cond.codeWith_spec h
  cases Option.some.inj (hn9.symm.trans B.named)
  cases Option.some.inj (h1.symm.trans B.method)
  cases Option.some.inj (h2.symm.trans (Stand.of_body B).code)
  rw [← h6, table_eq]
end Bodies
end VXA
/-! ===== END ===== -/
/-! ===== BEGIN a static call of a method with an exception table ===== -/
section VXS
variable {p : Program} {l : Launch} {e : Env} {R : Room} {s : State} {m : MethodId} {args : Array Value} {below : List Frame} {meth : Method} {c : Code} {T : State} {H : Heap} {locs : List Loc} {cells slots : Nat}
abbrev vx_CSW (R : Room) (s : State) (args : Array Value) (own : String) (index : Nat) (y : MethodName) (bytes : ByteArray) (maxL : Nat) (ret : Option FieldType) (hh : List (Nat × Nat × Nat × Nat)) (ws : List Cond) (rm : Room) (mc ms n : Nat) : Prop :=
  (rm.cells = mc ∧ rm.slots = ms ∧ rm.frames + 1 ≤ R.frames ∧ 8 + (maxL + 11) + rm.locals ≤ R.locals ∧ (∀ w ∈ ws, ∀ (a' : Array Value) (U : State), s.WarmedH U.vm → w.before a' U = true) ∧ Cond.codeWith y bytes maxL ret hh ∈ ws) ∧
  (Cond.codeWith y bytes maxL ret hh).before args s = true ∧ (Cond.initialized y.cls).before args s = true ∧ (y.cls ≠ "java/lang/invoke/MethodHandle" ∧ y.cls ≠ "java/lang/invoke/VarHandle") ∧
  (∀ sig, parseMethodDescriptor y.desc = some sig → n = sig.parameters.length) ∧ (Cond.methodLink own index y).before args s = true ∧ (Cond.static y).before args s = true
theorem vx_cwSW {own : String} {index maxL mc ms : Nat} {y : MethodName} {bytes : ByteArray} {ret : Option FieldType} {hh : List (Nat × Nat × Nat × Nat)} {Ts ws ws' : List Cond} {rm : Room} (n : Nat) (ht : ∀ w ∈ Ts, w.before args s = true) (hT : GoodIn Ts (va_wsS own index y ws)) (hw : ws = Cond.codeWith y bytes maxL ret hh :: ws') (hrc : rm.cells = mc) (hrs : rm.slots = ms)
    (hd : y.cls ≠ "java/lang/invoke/MethodHandle" ∧ y.cls ≠ "java/lang/invoke/VarHandle" ∧ (parseMethodDescriptor y.desc).map (fun d => d.parameters.length) = some n) (hR : rm.frames + 1 ≤ R.frames ∧ 8 + (maxL + 11) + rm.locals ≤ R.locals) :
    vx_CSW R s args own index y bytes maxL ret hh ws rm mc ms n := by
  have ok : ∀ w ∈ va_wsS own index y ws, w.before args s = true := fun w h => ht w (hT w h).1
  have hG : GoodIn Ts ws := fun w h => hT w (by unfold va_wsS; exact List.mem_append_right _ h)
  have hc : Cond.codeWith y bytes maxL ret hh ∈ ws := by rw [hw]; exact List.mem_cons_self
  refine ⟨⟨hrc, hrs, hR.1, hR.2, pay_in ht hG, hc⟩, ht _ (hG _ hc).1, ok _ (by simp [va_wsS]), ⟨hd.1, hd.2.1⟩, fun sig h => ?_, ok _ (by simp [va_wsS]), ok _ (by simp [va_wsS])⟩
  have h2 := hd.2.2
  rw [h] at h2
  exact (Option.some.inj h2).symm
theorem vx_callSW (X : Stand p l e R s m args below meth c T locs cells slots) (hexec : p.tables.exec = Jvm.exec) {own : String} {index : Nat} {y : MethodName} {bytes : ByteArray} {maxL : Nat} {ret : Option FieldType} {hh : List (Nat × Nat × Nat × Nat)}
    (hown : s.vm.findClass own = some m.cls) (hlink : (Cond.methodLink own index y).before args s = true) (hstat : (Cond.static y).before args s = true) (hinit : (Cond.initialized y.cls).before args s = true)
    (hcode : (Cond.codeWith y bytes maxL ret hh).before args s = true) (hy : y.cls ≠ "java/lang/invoke/MethodHandle" ∧ y.cls ≠ "java/lang/invoke/VarHandle")
    {W9 : Nat} {Pre : Pt → Array Value → Prop} {Post : Pt → Array Value → Option Value → Pt → Prop} (hK : Back l R p e below s args y 3 W9 Pre Post)
    {g : JFrame} (hg : g.method = m) (hsize : g.locals.size = c.maxLocals) {argsL rest : List Value} (hlen : ∀ sig, parseMethodDescriptor y.desc = some sig → argsL.length = sig.parameters.length)
    (hstack : g.stack = argsL.reverse ++ rest) (hW : 2 * g.monitorRoom + (rest.map fun v => v.category).sum ≤ W9) (hdg : decode c.code g.pc = .ok (.invokestatic index, 3))
    (hpre : ∀ vm₁, s.WarmedH vm₁ → Pre ⟨T.setVm vm₁, locs, cells, slots⟩ argsL.toArray) :
    ∃ (v : Option Value) (vm₁ : Vm) (B : Pt), s.WarmedH vm₁ ∧ Stand p l e R s m args below meth c B.U B.locs B.cells B.slots ∧ Post ⟨T.setVm vm₁, locs, cells, slots⟩ argsL.toArray v B ∧
      ∀ target, Steps p.tables e below (B.U.setTop { g with pc := g.pc + 3, stack := v.toList ++ rest }) target → Steps p.tables e below (T.setTop g) target := by
  obtain ⟨mk, methM, cM, hnamed, hmethM, -, -, -, -, -, -, hsigM⟩ := Cond.codeWith_spec hcode
  have hstatic : methM.isStatic = true := Cond.static_spec hnamed hmethM hstat
  obtain ⟨kP, hkP, -⟩ := className_of_methodNamed hnamed
  have hinitP : kP.init = .initialized := Cond.initialized_spec (findClass_of_methodNamed hnamed) hkP hinit
  obtain ⟨vm₁, X₁, hstep₁⟩ := X.invokestatic hexec hown hlink hnamed hmethM hstatic hkP hinitP hy (g := g) hg (argsL := argsL) (rest := rest) (hlen _ hsigM) hstack hdg
  obtain ⟨v, B, X', hpost, hsteps⟩ := hK m meth c ⟨T.setVm vm₁, locs, cells, slots⟩ { g with stack := rest } (.invokestatic index) mk argsL.toArray X₁ hg hsize hdg hW (X₁.named hnamed) (hpre vm₁ X₁.warmed)
  exact ⟨v, vm₁, B, X₁.warmed, X', hpost, fun target h => hstep₁ _ fun acts => by rw [doInvoke_state]; exact hsteps.trans h⟩
theorem vx_runSW {y : MethodName} {bytes cc : ByteArray} {maxL nL mc ms n index : Nat} {ret : Option FieldType} {hh : List (Nat × Nat × Nat × Nat)} {ws : List Cond} {rm : Room} {Pc : Array Value → State → Prop} {Qc : Array Value → State → Outcome → State → Prop} {free : Addr → Prop} {Ts : List Cond} {own : String} {As rest : List Value} {g : JFrame}
    (S : CallFix p m c cc nL s args Ts own) (hM : Met l y ws rm Pc Qc mc ms free) (cw : vx_CSW R s args own index y bytes maxL ret hh ws rm mc ms n) (hp : PreS s H Pc As)
    (hg : g.method = m) (hn : As.length = n) (hsize : g.locals.size = nL) (hstack : g.stack = As.reverse ++ rest) (hW : 2 * g.monitorRoom + (rest.map fun v => v.category).sum ≤ 8) (hdg : decode cc g.pc = .ok (.invokestatic index, 3)) (hf : cells + mc ≤ R.cells ∧ slots + ms ≤ R.slots) :
    va_Run p l e R s m args below meth c H locs cells slots mc ms g rest (Qc As.toArray) (free) := by
  obtain ⟨⟨hrc, hrs, hfr, hlo, hws, hcw⟩, hcode, hini, hy, hlen, hl, hstt⟩ := cw
  have hK : Back l R p e below s args y 3 8 (PreOf R mc ms Pc) (PostOf Qc mc ms free) := va_backW (hh := hh) (bytes := bytes) (maxL := maxL) (ret := ret) hM hp.1 hrc hrs hfr hlo hws hcw (fun a' U hW => word_at hW (Or.inl (by first | rfl | simp [Cond.onTables, Cond.keeps, Cond.steady])) hini)
  obtain ⟨hx, hb, hml, ho, -⟩ := S
  intro T hT X
  obtain ⟨v, vm₁, ⟨U', l2, c2, s2⟩, hW₁, X', ⟨g', mk, t, L, e1, e2, hq, h1, hL, h2, h3⟩, st⟩ := vx_callSW X hx (hh := hh) (bytes := bytes) (maxL := maxL) (ret := ret) ho hl hstt hini hcode hy hK hg (hsize.trans hml.symm) (argsL := As) (rest := rest) (fun sig h => hn.trans (hlen sig h)) hstack hW (by rw [hb]; exact hdg)
    (fun vm₁ hW₁ => ⟨hf.1, hf.2, hp.2 (T.setVm vm₁) hT hW₁⟩)
  dsimp only [Pt.U, Pt.locs, Pt.cells, Pt.slots] at X' e1 e2 h1 h2 h3 st
  subst h1; subst h2; subst h3
  exact ⟨v, (T.setVm vm₁).calling g' mk As.toArray, t, U', L, hT, X', hL, e1, e2, hq, st⟩
/-- not caught here, past rows that name other classes: it goes on to the caller -/
theorem vx_outP {p : Program} {l : Launch} {e : Env} {R : Room} {s : State} {m : MethodId} {args : Array Value} {below : List Frame} {meth : Method} {c : Code} {H : Heap} {locs : List Loc} {cells slots : Nat} {free : Addr → Prop} {ls : Array Slot} {rest : List Value} {Qc : Array Value → State → Outcome → State → Prop} {XC : String → Addr → State → State → Prop}
    {pc : Nat} {own E : String} {ce : Cell} {q : Addr} {mc ms : Nat} (hown : s.vm.findClass own = some m.cls) (hlocks : meth.locks = false)
    (hpass : ∀ z ∈ c.exceptionTable.toList, covers z pc = false ∨ (z.catchType ≠ 0 ∧ ∃ nm : String, (Cond.classLink own z.catchType nm).before args s = true ∧ va_Nc E nm s)) (hcell : H[q]? = some ce) (hv : ce.vm = .none) (hcl : s.vm.findClass E = some ce.cls)
    (hx : ∀ t : State, t.heap = H → s.vm.Alike t.vm → XC E q s t) (hf : ∀ z ∈ locs, free z.base) (hc : cells ≤ mc) (hs : slots ≤ ms) :
    vx_W p l e R s m args below meth c H locs cells slots (vx_MQ below Qc XC args s mc ms free) (F0 m pc ls rest) q := by
  intro T hT X
  have hpl : e.platform.magicAccessors = ({} : Platform).magicAccessors := by rw [X.admits.platform]
  obtain ⟨vm', hW', X', st⟩ := X.outThrough hlocks q (g := F0 m pc ls rest) rfl rfl rfl (cell := ce) (by rw [hT]; exact hcell) (by rw [hv]; rfl)
    (by obtain ⟨k9, h9, -⟩ := Vm.findClass_spec hcl; exact ⟨k9, h9⟩) (fun z hz => by
      rcases hpass z hz with h | ⟨hz0, nm, hl1, hn1⟩
      · exact Or.inl h
      · obtain ⟨c6, hc6, hcl6⟩ := Cond.classLink_spec hown hl1 e.platform hpl
        obtain ⟨a8, b8, h1, h2, h3⟩ := hn1
        cases Option.some.inj (h1.symm.trans hcl)
        cases Option.some.inj (h2.symm.trans hc6)
        exact Or.inr ⟨hz0, _, hcl6, h3⟩)
  obtain ⟨g₀, hfr⟩ := X'.frames_eq
  have hcell9 : ((T.setVm vm').setFrames (.throwing q :: below)).heap[q]? = some ce := by
    show T.heap[q]? = some ce
    rw [hT]; exact hcell
  have hend : Ended ((T.setVm vm').setFrames (.throwing q :: below)) below (.threw q) := State.frames_setFrames _ (State.cur_lt_of_frames hfr)
  refine ⟨(T.setVm vm').setFrames (.throwing q :: below), ?_, .threw q, X'.here.running, hend, Or.inr ⟨q, rfl, E, ce, locs, hx _ hT (X'.ends _).1.alike, hcell9, hv, hcl, (X'.ends _).1, (X'.ends _).2.mono hc hs, hf⟩⟩
  rw [X.pushThrowing_eq]
  exact st
/-- a thing of a world lies in the heap -/
theorem vx_lt {D : va_G} {cl : List vw_C} {ws : va_W} {H1 : Heap} (h : va_P D cl ws H1) {k : Nat} {q : Nat × va_E} (hk : ws[k]? = some q) : q.1 < H1.size := (h k q hk).lt
end VXS
/-! ===== END ===== -/
/-! ===== BEGIN methods with a table of their own: called by a name, returning or throwing ===== -/
section VXH
/-! vx_backW, vx_callVX, vx_callSX, vx_callVW, vx_runVW, vx_runVX, vx_runSX, vx_ofWH follow the same proofs as their sisters above (Free/Laws.lean, Shelf42/LK1.lean); vx_outP calls Shelf42/NT130.lean (outThrough). -/
section
variable {l : Launch} {R : Room} {p : Program} {e : Env} {below : List Frame} {s : State} {sargs : Array Value} {y : MethodName} {len W9 : Nat}
theorem vx_backW {ws : List Cond} {rm : Room} {Pc : Array Value → State → Prop} {Qc : Array Value → State → Outcome → State → Prop} {XC : String → Addr → State → State → Prop} {mc ms : Nat} {free : Addr → Prop} {bytes : ByteArray} {maxL : Nat} {ret : Option FieldType} {hh : List (Nat × Nat × Nat × Nat)}
    (hM : vx_Met l y ws rm Pc Qc XC mc ms free) (hblind : FrameBlind Pc) (hrc : rm.cells = mc) (hrs : rm.slots = ms)
    (hframes : rm.frames + 1 ≤ R.frames) (hlocals : W9 + (maxL + 11) + rm.locals ≤ R.locals)
    (hws : ∀ w ∈ ws, ∀ a' U, s.WarmedH U.vm → w.before a' U = true) (hcode : Cond.codeWith y bytes maxL ret hh ∈ ws) (hinit : ∀ a' U, s.WarmedH U.vm → (Cond.initialized y.cls).before a' U = true) :
    vx_Back l R p e below s sargs y len W9 (PreOf R mc ms Pc) (PostOf Qc mc ms free) (vx_Post XC mc ms free) := by
  intro m meth c A g ig mk a X hg hsize hdg hW hn hp
  have h1 : (headSpec ws rm).pre.before a A.U = true := atoms_intro fun w hw => hws w hw _ _ X.warmed
  have h2 : (Cond.codeWith y bytes maxL ret hh).before a A.U = true := hws _ hcode _ _ X.warmed
  have h3 : (Cond.initialized y.cls).before a A.U = true := hinit _ _ X.warmed
  have h4 : A.cells + (headSpec ws rm).room.cells ≤ R.cells := by rw [show (headSpec ws rm).room.cells = mc from hrc]; exact hp.1
  have h5 : A.slots + (headSpec ws rm).room.slots ≤ R.slots := by rw [show (headSpec ws rm).room.slots = ms from hrs]; exact hp.2.1
  have hPc : Pc a (A.U.calling g mk a) := hblind _ _ _ _ hp.2.2
  obtain ⟨U, Ls, c0, s0⟩ := A
  dsimp only [Pt.U, Pt.locs, Pt.cells, Pt.slots] at h1 h2 h3 h4 h5 X hn hPc ⊢
  obtain ⟨m9, methY, cY, hn9, hmY, hcY, -, hlY, -⟩ := Cond.codeWith_spec h2
  cases Option.some.inj (hn9.symm.trans hn)
  obtain ⟨kY, hkY, -⟩ := className_of_methodNamed hn
  have hinitY : kY.init = .initialized := Cond.initialized_spec (findClass_of_methodNamed hn) hkY h3
  have h : At U g.method c below := by rw [hg]; exact X.here
  have hlocals9 : W9 + (maxL + 11) + (headSpec ws rm).room.locals ≤ R.locals := hlocals
  have happ : (headSpec ws rm).appliesLoose y e.platform (U.calling g mk a) = true :=
    Spec.appliesLoose_calling (g := g) h hdg hn hkY hinitY
      (X.room_calling (g := g) (R' := (headSpec ws rm).room) hsize hmY hcY hframes (by rw [hlY]; omega) h4 h5) h1
  obtain ⟨mid, hmid⟩ := h.above
  have hfr : (U.setTop g).frames = (.java g :: mid) ++ below := by rw [State.frames_setTop' g h.top, hmid]; rfl
  obtain ⟨o, s₂, hsteps, -, hend, hq⟩ := Steps.callFree hM p X.admits X.cas X.clock (acts := []) hfr happ hPc trivial
  have hq' : vx_Q Qc XC mc ms free a (U.calling g mk a) o s₂ := hq
  rw [State.frames_setTop' g h.top] at hend
  obtain ⟨g₀, hg0⟩ := Option.isSome_iff_exists.mp h.top
  obtain ⟨r, hr⟩ := State.topJava?_eq_some.mp hg0
  have hr' : (({ U with heap := s₂.heap, slotsUsed := s₂.slotsUsed } : State).setVm s₂.vm).frames = .java g₀ :: r := hr
  rcases hq' with ⟨hqc, L, hfe, hL⟩ | ⟨q, rfl, E, ce, L, hx, hce, hcv, hcl, hW₂, hsm, hL⟩
  · obtain ⟨⟨v, rfl⟩, hW₂, e2, q2, q3, q4, q5, q6⟩ := id hfe
    have e3 : s₂ = ({ (U.calling g mk a).setFrames s₂.frames with heap := s₂.heap, slotsUsed := s₂.slotsUsed } : State).setVm s₂.vm := by
      have : s₂ = ({ s₂ with vm := (U.calling g mk a).vm } : State).setVm s₂.vm := rfl
      rw [e2] at this
      exact this
    obtain ⟨c₂, i₂, len₂, hc₂, hd₂, hf₂⟩ := hend
    have hW' : U.WarmedH s₂.vm := hW₂
    have hcc : c₂ = c := by
      have h1 : s₂.code? g.method = U.code? g.method := by
        rw [State.code?_eq, State.code?_eq, hW'.alike.method?]
      exact Option.some.inj (hc₂.symm.trans (h1.trans h.code))
    subst hcc
    have hlen : len₂ = len := by rw [hdg] at hd₂; cases hd₂; rfl
    subst hlen
    have hs₂ : s₂ = (({ U with heap := s₂.heap, slotsUsed := s₂.slotsUsed } : State).setVm s₂.vm).setTop { g with pc := g.pc + len₂, stack := v.toList ++ g.stack } := by
      refine e3.trans ?_
      rw [hf₂, State.calling_eq h.top, State.setFrames_setFrames, State.setTop_of_frames _ hr', hr]
      rfl
    have hsame : U.sameButNew ({ U with heap := s₂.heap, slotsUsed := s₂.slotsUsed } : State) L mc ms := by
      refine ⟨?_, q2, q3, q4, q5, q6⟩
      obtain ⟨t, ht, -⟩ := State.frames_cons hr
      show ({ U with heap := s₂.heap, slotsUsed := s₂.slotsUsed } : State) = { U.setFrames U.frames with heap := s₂.heap, slotsUsed := s₂.slotsUsed }
      rw [State.setFrames_self ht]
    subst hg
    refine Or.inl ⟨v, ⟨(({ U with heap := s₂.heap, slotsUsed := s₂.slotsUsed } : State).setVm s₂.vm), Ls ++ L, c0 + mc, s0 + ms⟩,
      ⟨X.admits, X.cas, X.clock, X.frames, X.room, X.hears, X.method, X.code, (X.here.setHeapUsed s₂.heap s₂.slotsUsed).setVm hW'.alike, X.tail, State.WarmedH.trans X.warmed hW', X.limits, X.bytes, X.same.trans (hsame.setVm s.vm)⟩,
      ⟨g, mk, s₂, L, rfl, rfl, hqc, rfl, hL, rfl, rfl⟩, ?_⟩
    show Steps p.tables e below _ ((({ U with heap := s₂.heap, slotsUsed := s₂.slotsUsed } : State).setVm s₂.vm).setTop { g with pc := g.pc + len₂, stack := v.toList ++ g.stack })
    rw [← hs₂]
    exact hsteps
  · obtain ⟨e2, q2, q3, q4, q5, q6⟩ := id hsm
    have e3 : s₂ = ({ (U.calling g mk a).setFrames s₂.frames with heap := s₂.heap, slotsUsed := s₂.slotsUsed } : State).setVm s₂.vm := by
      have : s₂ = ({ s₂ with vm := (U.calling g mk a).vm } : State).setVm s₂.vm := rfl
      rw [e2] at this
      exact this
    have hf₂ : s₂.frames = .throwing q :: .java g :: U.frames.tail := hend
    have hW' : U.WarmedH s₂.vm := hW₂
    have hs₂ : s₂ = ((({ U with heap := s₂.heap, slotsUsed := s₂.slotsUsed } : State).setVm s₂.vm).setTop g).pushFrame (.throwing q) := by
      refine e3.trans ?_
      rw [hf₂, State.calling_eq h.top, State.setFrames_setFrames, State.pushFrame, State.frames_setTop _ hr', State.setTop_of_frames _ hr', State.setFrames_setFrames, hr]
      rfl
    have hsame : U.sameButNew ({ U with heap := s₂.heap, slotsUsed := s₂.slotsUsed } : State) L mc ms := by
      refine ⟨?_, q2, q3, q4, q5, q6⟩
      obtain ⟨t, ht, -⟩ := State.frames_cons hr
      show ({ U with heap := s₂.heap, slotsUsed := s₂.slotsUsed } : State) = { U.setFrames U.frames with heap := s₂.heap, slotsUsed := s₂.slotsUsed }
      rw [State.setFrames_self ht]
    subst hg
    refine Or.inr ⟨q, ⟨(({ U with heap := s₂.heap, slotsUsed := s₂.slotsUsed } : State).setVm s₂.vm), Ls ++ L, c0 + mc, s0 + ms⟩,
      ⟨X.admits, X.cas, X.clock, X.frames, X.room, X.hears, X.method, X.code, (X.here.setHeapUsed s₂.heap s₂.slotsUsed).setVm hW'.alike, X.tail, State.WarmedH.trans X.warmed hW', X.limits, X.bytes, X.same.trans (hsame.setVm s.vm)⟩,
      ⟨g, mk, s₂, L, E, ce, rfl, rfl, hx, hce, hcv, hcl, rfl, hL, rfl, rfl⟩, ?_⟩
    show Steps p.tables e below _ (((({ U with heap := s₂.heap, slotsUsed := s₂.slotsUsed } : State).setVm s₂.vm).setTop g).pushFrame (.throwing q))
    rw [← hs₂]
    exact hsteps
end
variable {p : Program} {l : Launch} {e : Env} {R : Room} {s : State} {m : MethodId} {args : Array Value} {below : List Frame} {meth : Method} {c : Code} {T : State} {H : Heap} {locs : List Loc} {cells slots : Nat}
theorem vx_callVX (X : Stand p l e R s m args below meth c T locs cells slots) (hexec : p.tables.exec = Jvm.exec) {own C : String} {index : Nat} {y : MethodName} {bytes : ByteArray} {maxL : Nat} {ret : Option FieldType} {hh : List (Nat × Nat × Nat × Nat)}
    (hown : s.vm.findClass own = some m.cls) (hlink : (Cond.methodLink own index y).before args s = true) (hinst : (Cond.instanceMethod y).before args s = true) (hsel : (Cond.selects C y y).before args s = true)
    (hcode : (Cond.codeWith y bytes maxL ret hh).before args s = true) (hy : y.cls ≠ "java/lang/invoke/MethodHandle" ∧ y.cls ≠ "java/lang/invoke/VarHandle")
    {W9 : Nat} {Pre : Pt → Array Value → Prop} {Post : Pt → Array Value → Option Value → Pt → Prop} {PostX : Pt → Array Value → Addr → Pt → Prop} (hK : vx_Back l R p e below s args y 3 W9 Pre Post PostX)
    {b : Addr} {cellB : Cell} (hcell : T.heap[b]? = some cellB) (hobj : cellB.vm.isStatics = false) (hcls : s.vm.findClass C = some cellB.cls)
    {g : JFrame} (hg : g.method = m) (hsize : g.locals.size = c.maxLocals) {argsL rest : List Value} (hlen : ∀ sig, parseMethodDescriptor y.desc = some sig → argsL.length = sig.parameters.length)
    (hstack : g.stack = argsL.reverse ++ .ref b :: rest) (hW : 2 * g.monitorRoom + (rest.map fun v => v.category).sum ≤ W9) (hdg : decode c.code g.pc = .ok (.invokevirtual index, 3))
    (hpre : ∀ vm₁, s.WarmedH vm₁ → Pre ⟨T.setVm vm₁, locs, cells, slots⟩ (Value.ref b :: argsL).toArray) :
    (∃ (v : Option Value) (vm₁ : Vm) (B : Pt), s.WarmedH vm₁ ∧ Stand p l e R s m args below meth c B.U B.locs B.cells B.slots ∧ Post ⟨T.setVm vm₁, locs, cells, slots⟩ (Value.ref b :: argsL).toArray v B ∧
      ∀ target, Steps p.tables e below (B.U.setTop { g with pc := g.pc + 3, stack := v.toList ++ rest }) target → Steps p.tables e below (T.setTop g) target) ∨
    (∃ (q : Addr) (vm₁ : Vm) (B : Pt), s.WarmedH vm₁ ∧ Stand p l e R s m args below meth c B.U B.locs B.cells B.slots ∧ PostX ⟨T.setVm vm₁, locs, cells, slots⟩ (Value.ref b :: argsL).toArray q B ∧
      Steps p.tables e below (T.setTop g) ((B.U.setTop { g with stack := rest }).pushFrame (.throwing q))) := by
  obtain ⟨mk, methM, hnamed, hmethM, hstM, habM⟩ := Cond.instanceMethod_spec hinst
  obtain ⟨m8, methM', cM, hn8, hmethM', -, -, -, -, -, -, hsigM⟩ := Cond.codeWith_spec hcode
  cases Option.some.inj (hn8.symm.trans hnamed)
  cases hmethM.symm.trans hmethM'
  obtain ⟨c2, r2, m2, q1, q2, q3, q4, kP, hkP, hkPi⟩ := Cond.selects_spec hsel
  cases hcls.symm.trans q1
  cases (State.methodFound?_of_named hnamed hy).symm.trans q2
  cases hnamed.symm.trans q3
  have hselP : selectMethod e.platform s.vm cellB.cls mk = .method mk := by rw [Launch.admits_selectMethod X.admits]; exact q4
  obtain ⟨vm₁, X₁, hstep₁⟩ := X.invokevirtual hexec hown hlink hnamed hmethM hstM hkP hkPi hy (a := b) (cell := cellB) hcell
    (fun z h => by rw [h] at hobj; cases hobj) hselP hmethM habM hkP hkPi (g := g) hg (argsL := argsL) (rest := rest) (hlen _ hsigM) hstack hdg
  rcases hK m meth c ⟨T.setVm vm₁, locs, cells, slots⟩ { g with stack := rest } (.invokevirtual index) mk (Value.ref b :: argsL).toArray X₁ hg hsize hdg hW (X₁.named hnamed) (hpre vm₁ X₁.warmed) with ⟨v, B, X', hpost, hsteps⟩ | ⟨q, B, X', hpost, hsteps⟩
  · exact Or.inl ⟨v, vm₁, B, X₁.warmed, X', hpost, fun target h => hstep₁ _ fun acts => by rw [doInvoke_state]; exact hsteps.trans h⟩
  · exact Or.inr ⟨q, vm₁, B, X₁.warmed, X', hpost, hstep₁ _ fun acts => by rw [doInvoke_state]; exact hsteps⟩
theorem vx_callSX (X : Stand p l e R s m args below meth c T locs cells slots) (hexec : p.tables.exec = Jvm.exec) {own : String} {index : Nat} {y : MethodName} {bytes : ByteArray} {maxL : Nat} {ret : Option FieldType} {hh : List (Nat × Nat × Nat × Nat)}
    (hown : s.vm.findClass own = some m.cls) (hlink : (Cond.methodLink own index y).before args s = true) (hstat : (Cond.static y).before args s = true) (hinit : (Cond.initialized y.cls).before args s = true)
    (hcode : (Cond.codeWith y bytes maxL ret hh).before args s = true) (hy : y.cls ≠ "java/lang/invoke/MethodHandle" ∧ y.cls ≠ "java/lang/invoke/VarHandle")
    {W9 : Nat} {Pre : Pt → Array Value → Prop} {Post : Pt → Array Value → Option Value → Pt → Prop} {PostX : Pt → Array Value → Addr → Pt → Prop} (hK : vx_Back l R p e below s args y 3 W9 Pre Post PostX)
    {g : JFrame} (hg : g.method = m) (hsize : g.locals.size = c.maxLocals) {argsL rest : List Value} (hlen : ∀ sig, parseMethodDescriptor y.desc = some sig → argsL.length = sig.parameters.length)
    (hstack : g.stack = argsL.reverse ++ rest) (hW : 2 * g.monitorRoom + (rest.map fun v => v.category).sum ≤ W9) (hdg : decode c.code g.pc = .ok (.invokestatic index, 3))
    (hpre : ∀ vm₁, s.WarmedH vm₁ → Pre ⟨T.setVm vm₁, locs, cells, slots⟩ argsL.toArray) :
    (∃ (v : Option Value) (vm₁ : Vm) (B : Pt), s.WarmedH vm₁ ∧ Stand p l e R s m args below meth c B.U B.locs B.cells B.slots ∧ Post ⟨T.setVm vm₁, locs, cells, slots⟩ argsL.toArray v B ∧
      ∀ target, Steps p.tables e below (B.U.setTop { g with pc := g.pc + 3, stack := v.toList ++ rest }) target → Steps p.tables e below (T.setTop g) target) ∨
    (∃ (q : Addr) (vm₁ : Vm) (B : Pt), s.WarmedH vm₁ ∧ Stand p l e R s m args below meth c B.U B.locs B.cells B.slots ∧ PostX ⟨T.setVm vm₁, locs, cells, slots⟩ argsL.toArray q B ∧
      Steps p.tables e below (T.setTop g) ((B.U.setTop { g with stack := rest }).pushFrame (.throwing q))) := by
  obtain ⟨mk, methM, cM, hnamed, hmethM, -, -, -, -, -, -, hsigM⟩ := Cond.codeWith_spec hcode
  have hstatic : methM.isStatic = true := Cond.static_spec hnamed hmethM hstat
  obtain ⟨kP, hkP, -⟩ := className_of_methodNamed hnamed
  have hinitP : kP.init = .initialized := Cond.initialized_spec (findClass_of_methodNamed hnamed) hkP hinit
  obtain ⟨vm₁, X₁, hstep₁⟩ := X.invokestatic hexec hown hlink hnamed hmethM hstatic hkP hinitP hy (g := g) hg (argsL := argsL) (rest := rest) (hlen _ hsigM) hstack hdg
  rcases hK m meth c ⟨T.setVm vm₁, locs, cells, slots⟩ { g with stack := rest } (.invokestatic index) mk argsL.toArray X₁ hg hsize hdg hW (X₁.named hnamed) (hpre vm₁ X₁.warmed) with ⟨v, B, X', hpost, hsteps⟩ | ⟨q, B, X', hpost, hsteps⟩
  · exact Or.inl ⟨v, vm₁, B, X₁.warmed, X', hpost, fun target h => hstep₁ _ fun acts => by rw [doInvoke_state]; exact hsteps.trans h⟩
  · exact Or.inr ⟨q, vm₁, B, X₁.warmed, X', hpost, hstep₁ _ fun acts => by rw [doInvoke_state]; exact hsteps⟩
theorem vx_callVW (X : Stand p l e R s m args below meth c T locs cells slots) (hexec : p.tables.exec = Jvm.exec) {own C : String} {index : Nat} {y : MethodName} {bytes : ByteArray} {maxL : Nat} {ret : Option FieldType} {hh : List (Nat × Nat × Nat × Nat)}
    (hown : s.vm.findClass own = some m.cls) (hlink : (Cond.methodLink own index y).before args s = true) (hinst : (Cond.instanceMethod y).before args s = true) (hsel : (Cond.selects C y y).before args s = true)
    (hcode : (Cond.codeWith y bytes maxL ret hh).before args s = true) (hy : y.cls ≠ "java/lang/invoke/MethodHandle" ∧ y.cls ≠ "java/lang/invoke/VarHandle")
    {W9 : Nat} {Pre : Pt → Array Value → Prop} {Post : Pt → Array Value → Option Value → Pt → Prop} (hK : Back l R p e below s args y 3 W9 Pre Post)
    {b : Addr} {cellB : Cell} (hcell : T.heap[b]? = some cellB) (hobj : cellB.vm.isStatics = false) (hcls : s.vm.findClass C = some cellB.cls)
    {g : JFrame} (hg : g.method = m) (hsize : g.locals.size = c.maxLocals) {argsL rest : List Value} (hlen : ∀ sig, parseMethodDescriptor y.desc = some sig → argsL.length = sig.parameters.length)
    (hstack : g.stack = argsL.reverse ++ .ref b :: rest) (hW : 2 * g.monitorRoom + (rest.map fun v => v.category).sum ≤ W9) (hdg : decode c.code g.pc = .ok (.invokevirtual index, 3))
    (hpre : ∀ vm₁, s.WarmedH vm₁ → Pre ⟨T.setVm vm₁, locs, cells, slots⟩ (Value.ref b :: argsL).toArray) :
    ∃ (v : Option Value) (vm₁ : Vm) (B : Pt), s.WarmedH vm₁ ∧ Stand p l e R s m args below meth c B.U B.locs B.cells B.slots ∧ Post ⟨T.setVm vm₁, locs, cells, slots⟩ (Value.ref b :: argsL).toArray v B ∧
      ∀ target, Steps p.tables e below (B.U.setTop { g with pc := g.pc + 3, stack := v.toList ++ rest }) target → Steps p.tables e below (T.setTop g) target := by
  obtain ⟨mk, methM, hnamed, hmethM, hstM, habM⟩ := Cond.instanceMethod_spec hinst
  obtain ⟨m8, methM', cM, hn8, hmethM', -, -, -, -, -, -, hsigM⟩ := Cond.codeWith_spec hcode
  cases Option.some.inj (hn8.symm.trans hnamed)
  cases hmethM.symm.trans hmethM'
  obtain ⟨c2, r2, m2, q1, q2, q3, q4, kP, hkP, hkPi⟩ := Cond.selects_spec hsel
  cases hcls.symm.trans q1
  cases (State.methodFound?_of_named hnamed hy).symm.trans q2
  cases hnamed.symm.trans q3
  have hselP : selectMethod e.platform s.vm cellB.cls mk = .method mk := by rw [Launch.admits_selectMethod X.admits]; exact q4
  obtain ⟨vm₁, X₁, hstep₁⟩ := X.invokevirtual hexec hown hlink hnamed hmethM hstM hkP hkPi hy (a := b) (cell := cellB) hcell
    (fun z h => by rw [h] at hobj; cases hobj) hselP hmethM habM hkP hkPi (g := g) hg (argsL := argsL) (rest := rest) (hlen _ hsigM) hstack hdg
  obtain ⟨v, B, X', hpost, hsteps⟩ := hK m meth c ⟨T.setVm vm₁, locs, cells, slots⟩ { g with stack := rest } (.invokevirtual index) mk (Value.ref b :: argsL).toArray X₁ hg hsize hdg hW (X₁.named hnamed) (hpre vm₁ X₁.warmed)
  exact ⟨v, vm₁, B, X₁.warmed, X', hpost, fun target h => hstep₁ _ fun acts => by rw [doInvoke_state]; exact hsteps.trans h⟩
abbrev vx_CVW (R : Room) (s : State) (args : Array Value) (own C : String) (index : Nat) (y : MethodName) (bytes : ByteArray) (maxL : Nat) (ret : Option FieldType) (hh : List (Nat × Nat × Nat × Nat)) (ws : List Cond) (rm : Room) (mc ms n : Nat) : Prop :=
  (rm.cells = mc ∧ rm.slots = ms ∧ rm.frames + 1 ≤ R.frames ∧ 8 + (maxL + 11) + rm.locals ≤ R.locals ∧ (∀ w ∈ ws, ∀ (a' : Array Value) (U : State), s.WarmedH U.vm → w.before a' U = true) ∧ Cond.codeWith y bytes maxL ret hh ∈ ws) ∧
  (Cond.codeWith y bytes maxL ret hh).before args s = true ∧ (Cond.initialized y.cls).before args s = true ∧ (y.cls ≠ "java/lang/invoke/MethodHandle" ∧ y.cls ≠ "java/lang/invoke/VarHandle") ∧
  (∀ sig, parseMethodDescriptor y.desc = some sig → n = sig.parameters.length) ∧ (Cond.methodLink own index y).before args s = true ∧ (Cond.instanceMethod y).before args s = true ∧ (Cond.selects C y y).before args s = true
theorem vx_cwVW {own C : String} {index maxL mc ms : Nat} {y : MethodName} {bytes : ByteArray} {ret : Option FieldType} {hh : List (Nat × Nat × Nat × Nat)} {Ts ws ws' : List Cond} {rm : Room} (n : Nat) (ht : ∀ w ∈ Ts, w.before args s = true) (hT : GoodIn Ts (wsV own index C y ws)) (hw : ws = Cond.codeWith y bytes maxL ret hh :: ws') (hrc : rm.cells = mc) (hrs : rm.slots = ms)
    (hd : y.cls = C ∧ y.cls ≠ "java/lang/invoke/MethodHandle" ∧ y.cls ≠ "java/lang/invoke/VarHandle" ∧ (parseMethodDescriptor y.desc).map (fun d => d.parameters.length) = some n) (hR : rm.frames + 1 ≤ R.frames ∧ 8 + (maxL + 11) + rm.locals ≤ R.locals) :
    vx_CVW R s args own C index y bytes maxL ret hh ws rm mc ms n := by
  obtain ⟨hC, hd⟩ := hd
  subst hC
  have ok : ∀ w ∈ wsV own index y.cls y ws, w.before args s = true := fun w h => ht w (hT w h).1
  have hG : GoodIn Ts ws := fun w h => hT w (by unfold wsV; exact List.mem_append_right _ h)
  have hc : Cond.codeWith y bytes maxL ret hh ∈ ws := by rw [hw]; exact List.mem_cons_self
  refine ⟨⟨hrc, hrs, hR.1, hR.2, pay_in ht hG, hc⟩, ht _ (hG _ hc).1, ok _ (by simp [wsV]), ⟨hd.1, hd.2.1⟩, fun sig h => ?_, ok _ (by simp [wsV]), ok _ (by simp [wsV]), ok _ (by simp [wsV])⟩
  have h2 := hd.2.2
  rw [h] at h2
  exact (Option.some.inj h2).symm
theorem vx_runVW {y : MethodName} {bytes cc : ByteArray} {maxL nL mc ms n index : Nat} {ret : Option FieldType} {hh : List (Nat × Nat × Nat × Nat)} {ws : List Cond} {rm : Room} {Pc : Array Value → State → Prop} {Qc : Array Value → State → Outcome → State → Prop} {free : Addr → Prop} {Ts : List Cond} {own C : String} {b : Addr} {As rest : List Value} {g : JFrame}
    (S : CallFix p m c cc nL s args Ts own) (hM : Met l y ws rm Pc Qc mc ms free) (cw : vx_CVW R s args own C index y bytes maxL ret hh ws rm mc ms n) (hp : PreV s H C b Pc As)
    (hg : g.method = m) (hn : As.length = n) (hsize : g.locals.size = nL) (hstack : g.stack = As.reverse ++ .ref b :: rest) (hW : 2 * g.monitorRoom + (rest.map fun v => v.category).sum ≤ 8) (hdg : decode cc g.pc = .ok (.invokevirtual index, 3)) (hf : cells + mc ≤ R.cells ∧ slots + ms ≤ R.slots) :
    va_Run p l e R s m args below meth c H locs cells slots mc ms g rest (Qc (Value.ref b :: As).toArray) free := by
  obtain ⟨⟨hrc, hrs, hfr, hlo, hws, hcw⟩, hcode, hini, hy, hlen, hl, hin, hse⟩ := cw
  have hK : Back l R p e below s args y 3 8 (PreOf R mc ms Pc) (PostOf Qc mc ms free) := va_backW (hh := hh) (bytes := bytes) (maxL := maxL) (ret := ret) hM hp.1 hrc hrs hfr hlo hws hcw (fun a' U hW => word_at hW (Or.inl (by first | rfl | simp [Cond.onTables, Cond.keeps, Cond.steady])) hini)
  obtain ⟨hx, hb, hml, ho, -⟩ := S
  obtain ⟨-, ⟨cellB, hcB, hoB, hclB⟩, hPc⟩ := hp
  intro T hT X
  obtain ⟨v, vm₁, ⟨U', l2, c2, s2⟩, hW₁, X', ⟨g', mk, t, L, e1, e2, hq, h1, hL, h2, h3⟩, st⟩ := vx_callVW X hx (C := C) (hh := hh) (bytes := bytes) (maxL := maxL) (ret := ret) ho hl hin hse hcode hy hK (by rw [hT]; exact hcB) hoB hclB hg (hsize.trans hml.symm) (argsL := As) (rest := rest) (fun sig h => hn.trans (hlen sig h)) hstack hW (by rw [hb]; exact hdg)
    (fun vm₁ hW₁ => ⟨hf.1, hf.2, hPc (T.setVm vm₁) hT hW₁⟩)
  dsimp only [Pt.U, Pt.locs, Pt.cells, Pt.slots] at X' e1 e2 h1 h2 h3 st
  subst h1; subst h2; subst h3
  exact ⟨v, (T.setVm vm₁).calling g' mk (Value.ref b :: As).toArray, t, U', L, hT, X', hL, e1, e2, hq, st⟩
section
variable {y : MethodName} {bytes cc : ByteArray} {maxL nL mc ms n index : Nat} {ret : Option FieldType} {ws : List Cond} {rm : Room} {Pc : Array Value → State → Prop} {Qc : Array Value → State → Outcome → State → Prop} {XC : String → Addr → State → State → Prop} {free : Addr → Prop} {Ts : List Cond} {own C : String} {b : Addr} {As rest : List Value} {g : JFrame}
theorem vx_runVX {hh : List (Nat × Nat × Nat × Nat)} (S : CallFix p m c cc nL s args Ts own) (hM : vx_Met l y ws rm Pc Qc XC mc ms free) (cw : vx_CVW R s args own C index y bytes maxL ret hh ws rm mc ms n) (hp : PreV s H C b Pc As)
    (hg : g.method = m) (hn : As.length = n) (hsize : g.locals.size = nL) (hstack : g.stack = As.reverse ++ .ref b :: rest) (hW : 2 * g.monitorRoom + (rest.map fun v => v.category).sum ≤ 8) (hdg : decode cc g.pc = .ok (.invokevirtual index, 3)) (hf : cells + mc ≤ R.cells ∧ slots + ms ≤ R.slots) :
    vx_Run p l e R s m args below meth c H locs cells slots mc ms g rest (Qc (Value.ref b :: As).toArray) XC free := by
  obtain ⟨⟨hrc, hrs, hfr, hlo, hws, hcw⟩, hcode, hini, hy, hlen, hl, hin, hse⟩ := cw
  have hK : vx_Back l R p e below s args y 3 8 (PreOf R mc ms Pc) (PostOf Qc mc ms free) (vx_Post XC mc ms free) := vx_backW (hh := hh) (bytes := bytes) (maxL := maxL) (ret := ret) hM hp.1 hrc hrs hfr hlo hws hcw (fun a' U hW => word_at hW (Or.inl (by first | rfl | simp [Cond.onTables, Cond.keeps, Cond.steady])) hini)
  obtain ⟨hx, hb, hml, ho, -⟩ := S
  obtain ⟨-, ⟨cellB, hcB, hoB, hclB⟩, hPc⟩ := hp
  intro T hT X
  rcases vx_callVX X hx (C := C) (hh := hh) (bytes := bytes) (maxL := maxL) (ret := ret) ho hl hin hse hcode hy hK (by rw [hT]; exact hcB) hoB hclB hg (hsize.trans hml.symm) (argsL := As) (rest := rest) (fun sig h => hn.trans (hlen sig h)) hstack hW (by rw [hb]; exact hdg)
    (fun vm₁ hW₁ => ⟨hf.1, hf.2, hPc (T.setVm vm₁) hT hW₁⟩) with ⟨v, vm₁, ⟨U', l2, c2, s2⟩, hW₁, X', ⟨g', mk, t, L, e1, e2, hq, h1, hL, h2, h3⟩, st⟩ | ⟨q, vm₁, ⟨U', l2, c2, s2⟩, hW₁, X', ⟨g', mk, t, L, E, ce, e1, e2, hq, hce, hcv, hcl, h1, hL, h2, h3⟩, st⟩
  · dsimp only [Pt.U, Pt.locs, Pt.cells, Pt.slots] at X' e1 e2 h1 h2 h3 st
    subst h1; subst h2; subst h3
    exact Or.inl ⟨v, (T.setVm vm₁).calling g' mk (Value.ref b :: As).toArray, t, U', L, hT, X', hL, e1, e2, hq, st⟩
  · dsimp only [Pt.U, Pt.locs, Pt.cells, Pt.slots] at X' e1 e2 h1 h2 h3 st hcl
    subst h1; subst h2; subst h3
    exact Or.inr ⟨q, (T.setVm vm₁).calling g' mk (Value.ref b :: As).toArray, t, U', L, E, ce, hT, X', hL, e1, e2, hq, hce, hcv, vx_cls hW₁ hcl, st⟩
theorem vx_runSX {hh : List (Nat × Nat × Nat × Nat)} (S : CallFix p m c cc nL s args Ts own) (hM : vx_Met l y ws rm Pc Qc XC mc ms free) (cw : vx_CSW R s args own index y bytes maxL ret hh ws rm mc ms n) (hp : PreS s H Pc As)
    (hg : g.method = m) (hn : As.length = n) (hsize : g.locals.size = nL) (hstack : g.stack = As.reverse ++ rest) (hW : 2 * g.monitorRoom + (rest.map fun v => v.category).sum ≤ 8) (hdg : decode cc g.pc = .ok (.invokestatic index, 3)) (hf : cells + mc ≤ R.cells ∧ slots + ms ≤ R.slots) :
    vx_Run p l e R s m args below meth c H locs cells slots mc ms g rest (Qc As.toArray) XC free := by
  obtain ⟨⟨hrc, hrs, hfr, hlo, hws, hcw⟩, hcode, hini, hy, hlen, hl, hstt⟩ := cw
  have hK : vx_Back l R p e below s args y 3 8 (PreOf R mc ms Pc) (PostOf Qc mc ms free) (vx_Post XC mc ms free) := vx_backW (hh := hh) (bytes := bytes) (maxL := maxL) (ret := ret) hM hp.1 hrc hrs hfr hlo hws hcw (fun a' U hW => word_at hW (Or.inl (by first | rfl | simp [Cond.onTables, Cond.keeps, Cond.steady])) hini)
  obtain ⟨hx, hb, hml, ho, -⟩ := S
  intro T hT X
  rcases vx_callSX X hx (hh := hh) (bytes := bytes) (maxL := maxL) (ret := ret) ho hl hstt hini hcode hy hK hg (hsize.trans hml.symm) (argsL := As) (rest := rest) (fun sig h => hn.trans (hlen sig h)) hstack hW (by rw [hb]; exact hdg)
    (fun vm₁ hW₁ => ⟨hf.1, hf.2, hp.2 (T.setVm vm₁) hT hW₁⟩) with ⟨v, vm₁, ⟨U', l2, c2, s2⟩, hW₁, X', ⟨g', mk, t, L, e1, e2, hq, h1, hL, h2, h3⟩, st⟩ | ⟨q, vm₁, ⟨U', l2, c2, s2⟩, hW₁, X', ⟨g', mk, t, L, E, ce, e1, e2, hq, hce, hcv, hcl, h1, hL, h2, h3⟩, st⟩
  · dsimp only [Pt.U, Pt.locs, Pt.cells, Pt.slots] at X' e1 e2 h1 h2 h3 st
    subst h1; subst h2; subst h3
    exact Or.inl ⟨v, (T.setVm vm₁).calling g' mk As.toArray, t, U', L, hT, X', hL, e1, e2, hq, st⟩
  · dsimp only [Pt.U, Pt.locs, Pt.cells, Pt.slots] at X' e1 e2 h1 h2 h3 st hcl
    subst h1; subst h2; subst h3
    exact Or.inr ⟨q, (T.setVm vm₁).calling g' mk As.toArray, t, U', L, E, ce, hT, X', hL, e1, e2, hq, hce, hcv, vx_cls hW₁ hcl, st⟩
end
end VXH
theorem vx_ofWH {l : Launch} {y : MethodName} {ws ws' : List Cond} {rm : Room} {Pc : Array Value → State → Prop} {Qc : Array Value → State → Outcome → State → Prop} {XC : String → Addr → State → State → Prop} {mc ms : Nat} {free : Addr → Prop} {cc : ByteArray} {maxL : Nat} {ret : Option FieldType} {hh : List (Nat × Nat × Nat × Nat)}
    (hy : plainName y.cls = true) (hw : ws = Cond.codeWith y cc maxL ret hh :: ws')
    (body : ∀ p e s m args below meth c s₁, BodyLoose p l y (headSpec ws rm) cc maxL ret e s m args below meth c s₁ → c.maxLocals = maxL → Pc args s →
      W p l e (headSpec ws rm).room s m args below meth c s.heap [] 0 0 (vx_MQ below Qc XC args s mc ms free) (entryFrame m args maxL)) : vx_Met l y ws rm Pc Qc XC mc ms free := by
  refine MetFree.of_bodyS (code := cc) (maxLocals := maxL) (ret := ret) hy ?_ ?_
  · intro args s m h hn
    obtain ⟨m9, meth, c, hn9, h1, h2, h3, h4, -, h5, h6, -⟩ := Cond.codeWith_spec (atoms_spec (ws := ws) h _ (by rw [hw]; exact List.mem_cons_self))
    cases hn.symm.trans hn9
    exact ⟨meth, c, h1, h2, h3, h4, h5, h6⟩
  · intro p e s m args below meth c s₁ B hml hP _
    have hh0 : s₁.heap = s.heap := by rw [B.state]; rfl
    obtain ⟨t, a1, o, b1, b2, b3⟩ := body p e s m args below meth c s₁ B hml hP s₁ hh0 (Stand.of_body B)
    exact ⟨t, o, a1, b1, b2, b3⟩
/-! ===== END ===== -/
/-! ===== BEGIN what the machine throws by itself, no traces kept ===== -/
section VXM
set_option maxHeartbeats 1000000 in
/-- the machine throws cls with the message text, no traces kept: from its note over the frame g to 'throwing' over the same frame (follows the proofs of Stand.vmThrowsMessage, Shelf/KitTracedVmS.lean, and Stand.throwsMessageColdBareV, StandMessageColdV.lean, without the step out of the frame) -/
theorem vx_vmAt {p : Program} {l : Launch} {e : Env} {R : Room} {s : State} {m₀ : MethodId} {args : Array Value} {below : List Frame} {meth : Method} {c : Code} {W : State} {locs : List Loc} {cells slots : Nat}
    (X : Stand p l e R s m₀ args below meth c W locs cells slots) (hexec : p.tables.exec = Jvm.exec) (htr : e.platform.stackTraces = false) {cls : String} {names : List String} {text : String}
    (hcls : Bundle.fit cls = true) (hnames : ∀ n ∈ names, Bundle.fit n = true) (hsoe : (cls == "java/lang/StackOverflowError") = false) (hoom : (cls == "java/lang/OutOfMemoryError") = false)
    (h : ∀ a ∈ Bundle.messageArmAtoms cls names, a.before args s = true)
    (hlocs : ∀ x ∈ locs, ∀ cell, s.heap[x.base]? = some cell → cell.vm.isStatics = false)
    (htext : (text == notModelled) = false) (hlimit : ¬ (stringBytes (stringToUtf16 text)).size > e.platform.arrayLengthLimit) (hheap : ¬ (stringBytes (stringToUtf16 text)).size * componentBytes .byte > e.platform.maxHeapBytes)
    {g : JFrame} (hg : g.method = m₀) (hsize : g.locals.size = c.maxLocals)
    (hRframes : names.length + 4 < R.frames) (hRlocals : 2 * g.monitorRoom + (g.stack.map fun v => v.category).sum + 10240 ≤ R.locals) (hshort : 13 * names.length + 55 ≤ 10240)
    (hRcells : cells + 3 ≤ R.cells) (hRslots : slots + ((stringBytes (stringToUtf16 text)).size + 4 + 6) ≤ R.slots) (hlocks : meth.locks = false) :
    ∃ (S : State) (q : Addr) (ce : Cell), (∀ target, Steps p.tables e below ((S.setTop g).pushFrame (.throwing q)) target → Steps p.tables e below ((W.setTop g).pushFrame (.throwNew cls (some text) none)) target) ∧
      Stand p l e R s m₀ args below meth c S locs (cells + 3) (slots + ((stringBytes (stringToUtf16 text)).size + 4 + 6)) ∧ S.heap[q]? = some ce ∧ s.vm.findClass cls = some ce.cls ∧ ce.vm = .none := by
  have howns : e.platform.frameOwnsMonitors = true := by rw [X.admits.platform]
  have hfin : e.platform.finalization = false := by rw [X.admits.platform]
  have hpl : e.platform.magicAccessors = ({} : Platform).magicAccessors := by rw [X.admits.platform]
  have a : ∀ x, x ∈ Bundle.messageArmAtoms cls names → x.holds args s none s [] = true := fun x hx => h x hx
  obtain ⟨T, Z0, L, -, Y⟩ := ThrowableC.of_atoms (args := args) howns hfin hpl (fun x hx => h x (by simp [Bundle.messageArmAtoms, hx]))
  obtain ⟨Z, M, LZ, LM, hnZ⟩ := Init0T.ofS_atoms (args := args) hpl L Y (fun x hx => h x (by simp [Bundle.messageArmAtoms, hx]))
  obtain ⟨P1, Ps, hlen, L1, hL, hP1m, hlink1, hlink⟩ := Bundle.chainS (args := args) hpl hnZ names cls hcls hnames (fun x hx => h x (by simp [Bundle.messageArmAtoms, hx]))
  obtain ⟨Zs, LZs, hn4, hfitv, hfitc⟩ := StringT.of_atoms (args := args) (fun x hx => h x (by simp [Bundle.messageArmAtoms, hx]))
  have hfound : s.vm.findClass cls = some P1.m.cls := findClass_of_methodNamed hP1m
  obtain ⟨c1, kX, hc1, hk, hord, -, -, hn6⟩ := Cond.instantiable_spec (a (.instantiable cls 6) (by simp [Bundle.messageArmAtoms]))
  cases Option.some.inj (hc1.symm.trans hfound)
  have hinit := Cond.initialized_spec hfound hk (a (.initialized cls) (by simp [Bundle.messageArmAtoms]))
  have hctor : kX.findMethod "<init>" "(Ljava/lang/String;)V" = some P1.m.idx := findMethod_of_methodNamed hP1m hk
  have hsel0 : selectMethod e.platform s.vm P1.m.cls T.fill0 = .method T.fill0 := by
    obtain ⟨c2, r2, m2, q1, q2, q3, q4, -⟩ := Cond.selects_spec (a (.selects cls Bundle.tFill0 Bundle.tFill0) (by simp [Bundle.messageArmAtoms]))
    cases Option.some.inj (q1.symm.trans hfound)
    cases Option.some.inj (q2.symm.trans (State.methodFound?_of_named Y.fill0 (by decide)))
    cases Option.some.inj (q3.symm.trans Y.fill0)
    rw [Launch.admits_selectMethod X.admits]; exact q4
  have hselF : selectMethod e.platform s.vm P1.m.cls T.fill = .method T.fill := by
    obtain ⟨c2, r2, m2, q1, q2, q3, q4, -⟩ := Cond.selects_spec (a (.selects cls Bundle.tFill Bundle.tFill) (by simp [Bundle.messageArmAtoms]))
    cases Option.some.inj (q1.symm.trans hfound)
    cases Option.some.inj (q2.symm.trans (State.methodFound?_of_named Y.fill (by decide)))
    cases Option.some.inj (q3.symm.trans Y.fill)
    rw [Launch.admits_selectMethod X.admits]; exact q4
  obtain ⟨cellS0, hcS0, hiss⟩ := Y.statics
  obtain ⟨u0, hu0⟩ := Cond.staticRefV Y.unassigned L.unassignedStatic L.statics hcS0 hiss (a (.isRef (.static Bundle.tN "UNASSIGNED_STACK" Bundle.steD)) (by simp [Bundle.messageArmAtoms]))
  obtain ⟨sen, hsen⟩ := Cond.staticRefV Y.sentinel L.sentinelStatic L.statics hcS0 hiss (a (.isRef (.static Bundle.tN "SUPPRESSED_SENTINEL" Bundle.listD)) (by simp [Bundle.messageArmAtoms]))
  obtain ⟨ci198, i198, fB, hk198, hg198, ha198, hsB, -, hnB, htB, hffB⟩ := Cond.ownField (t := .object "java/lang/Object") Y.found L.cls (by decide +kernel) (a (.fieldLink Bundle.tN 198 Bundle.tN "backtrace" "Ljava/lang/Object;") (by simp [Bundle.messageArmAtoms])) (a (.lays Bundle.tN Bundle.tN "backtrace" "Ljava/lang/Object;") (by simp [Bundle.messageArmAtoms])) e.platform hpl
  obtain ⟨cellS, hcS', heS, -, hkeep⟩ := X.same.2.2.2.2.2 T.aS cellS0 hcS0
  have hcellS : W.heap[T.aS]? = some cellS := hcS'
  have hout' : ∀ i, (⟨T.aS, i⟩ : Loc) ∉ locs := fun i hmem => by
    have := hlocs _ hmem cellS0 hcS0
    rw [hiss] at this; cases this
  have hknownS : cellS.vm ≠ .unknown := by
    rw [heS]; intro hu
    rw [show cellS0.vm = .unknown from hu] at hiss
    cases hiss
  have hvU : cellS.slots[T.fUnassigned.slot]? = some u0.v := by rw [hkeep _ (hout' _)]; exact hu0
  have hvSen : cellS.slots[T.fSentinel.slot]? = some sen.v := by rw [hkeep _ (hout' _)]; exact hsen
  obtain ⟨iM, hffM⟩ := Y.msg
  obtain ⟨tyC, dC, hdC, hdnC⟩ := Cond.laysAt hfound hk Y.cause (a (.lays cls Bundle.tN "cause" "Ljava/lang/Throwable;") (by simp [Bundle.messageArmAtoms]))
  obtain ⟨tyS, dS, hdS, hdnS⟩ := Cond.laysAt hfound hk Y.stack (a (.lays cls Bundle.tN "stackTrace" Bundle.steD) (by simp [Bundle.messageArmAtoms]))
  obtain ⟨tyP, dP, hdP, hdnP⟩ := Cond.laysAt hfound hk Y.supp (a (.lays cls Bundle.tN "suppressedExceptions" Bundle.listD) (by simp [Bundle.messageArmAtoms]))
  obtain ⟨tyM, dM, hdM, hdnM⟩ := Cond.laysAt hfound hk hffM (a (.lays cls Bundle.tN "detailMessage" "Ljava/lang/String;") (by simp [Bundle.messageArmAtoms]))
  obtain ⟨tyB, dB, hdB, hdnB⟩ := Cond.laysAt hfound hk hffB (a (.lays cls Bundle.tN "backtrace" "Ljava/lang/Object;") (by simp [Bundle.messageArmAtoms]))
  have bC := Cond.laysApart hdB hdC hdnB hdnC (by rw [hnB, Y.causeName]; decide)
  have bS := Cond.laysApart hdB hdS hdnB hdnS (by rw [hnB, Y.stackName]; decide)
  have bP := Cond.laysApart hdB hdP hdnB hdnP (by rw [hnB, Y.suppName]; decide)
  have hbk : ((preparedCellV T.toThrowableT (freshCell P1.m.cls kX) (W.heap.size + 2) u0 sen).withEntry W.cur).slots[fB.slot]? = some .null := by
    have := fresh_default (c := P1.m.cls) tyB
    rw [htB] at this
    simpa [preparedCellV, Cell.setSlot, Cell.withEntry, Array.getElem?_setIfInBounds, bC, bS, bP, bC.symm, bS.symm, bP.symm, defaultValue] using this
  have tkC := Takes.of_laid (v := .ref (W.heap.size + 2)) hk hord tyC (by rw [Y.causeType]; rfl)
  have tkS := Takes.of_laid (v := u0.v) hk hord tyS (by rw [Y.stackType]; exact fits_refV_array _ u0)
  have tkP := Takes.of_laid (v := sen.v) hk hord tyP (by rw [Y.suppType]; exact fits_refV_object _ sen)
  have tkM := Takes.of_laid (v := .ref (W.heap.size + 1)) hk hord tyM (by rw [Y.msgType]; rfl)
  have hskip : SkipFacts T e.platform s (fun u => u) u0 ((preparedCellV T.toThrowableT (freshCell P1.m.cls kX) (W.heap.size + 2) u0 sen).withEntry W.cur) := ⟨{ ci198 := ci198, i198 := i198, fBack := fB }, ⟨hk198, hg198, ha198, hsB⟩, hbk, fun _ _ => rfl⟩
  have h0 : At W g.method c below := by rw [hg]; exact X.here
  obtain ⟨hbeyond, hfreeW⟩ := X.vmMayThrow hsize (.throwNew cls (some text) none) (fun f hf => by cases hf) rfl hRlocals
  have hfr' : W.frames.length + Ps.length + 4 < (e.platform.stackLimits W.me).1 := by have := X.framesAbove hRframes; omega
  have hwd' : (stackUse (.java g :: W.frames.tail)).2 + 13 * Ps.length + 55 ≤ (e.platform.stackLimits W.me).2 := by have := X.stackAbove hsize (K := 13 * Ps.length + 55) (by omega); omega
  have hslots : W.slotsUsed + (stringBytes (stringToUtf16 text)).size + Zs.kS.instanceTypes.size + kX.instanceTypes.size ≤ e.platform.maxSlots := by
    have := X.slotsAbove hRslots
    rw [hn4, hn6]
    omega
  obtain ⟨vm', hW', st⟩ := Steps.vmThrowsMessageColdByV p (s₀ := s) (S := W) (g := g) h0 hexec T L Z LZ M LM X.warmed (t := W.cur) rfl Zs LZs P1 L1 Ps hL hlink1 hlink hsoe hoom hfound hk hinit hord hctor
    (Launch.admits_hotImplicitExceptions X.admits) hbeyond hfreeW htext hlimit hheap (X.cellsAbove hRcells) hslots (hfitv _) (hfitc _)
    (Nn := fun u => u) heapOnly_id (fun _ _ => rfl) (fun _ => rfl) (fun u x y => setCell_twice _ _ _ _) (fun _ => Nat.le_refl _) (cN := ((preparedCellV T.toThrowableT (freshCell P1.m.cls kX) (W.heap.size + 2) u0 sen).withEntry W.cur))
    hsel0 hcellS hknownS hvU tkS (fun _ hu => hu) (fun _ hu => hu) rfl rfl rfl (by simp [preparedCellV, Cell.setSlot, Cell.withEntry]) hskip (fun _ _ hA hW _ hroom _ hrest => L.nativeOff p htr hA hW hroom hrest) hselF hvSen tkC tkP tkM Y.objLocals rfl hfr' hwd'
  rw [plainBareV_eq T.toThrowableT (W.heap.size + 2) u0 sen (.ref (W.heap.size + 1)) W.cur rfl rfl] at st
  obtain ⟨-, -, w3, w4, -, -, -⟩ := withThrown_facts e.platform W Zs text P1.m.cls kX
  have X3 := ((X.pushed (bytesOf Zs.cB (stringToUtf16 text))).pushed (stringAt Zs.cS Zs.kS Zs.fv Zs.fc (stringToUtf16 text) W.heap.size)).pushed (freshCell P1.m.cls kX)
  rw [← withString_eq] at X3
  have X4 := X3.noted hW'
  have ha : (W.heap.size + 2) < ((withThrown W Zs text P1.m.cls kX).setVm vm').heap.size := by show _ < (withThrown W Zs text P1.m.cls kX).heap.size; rw [w3]; omega
  have hcell : ((withThrown W Zs text P1.m.cls kX).setVm vm').heap[(W.heap.size + 2)]? = some (freshCell P1.m.cls kX) := w4
  have X5 := ((((X4.stored hcell T.fCause.slot (.ref (W.heap.size + 2))).storedAgain ha T.fStack.slot u0.v).storedAgain ha T.fSupp.slot sen.v).storedAgain ha T.fStack.slot u0.v).storedAgain ha T.fMsg.slot (.ref (W.heap.size + 1))
  obtain ⟨g₁, hfrM⟩ := X5.frames_eq
  have hU : ((((withThrown W Zs text P1.m.cls kX).setVm vm').setCell (W.heap.size + 2) (plainBareV T.toThrowableT (freshCell P1.m.cls kX) (W.heap.size + 2) u0 sen (.ref (W.heap.size + 1)))).setTop g).pushFrame (.throwing (W.heap.size + 2)) = (((withThrown W Zs text P1.m.cls kX).setVm vm').setCell (W.heap.size + 2) (plainBareV T.toThrowableT (freshCell P1.m.cls kX) (W.heap.size + 2) u0 sen (.ref (W.heap.size + 1)))).setFrames (.throwing (W.heap.size + 2) :: .java g :: below) := by
    rw [State.pushFrame, State.frames_setTop _ hfrM, State.setTop_of_frames _ hfrM, State.setFrames_setFrames]
  have b1 : (bytesOf Zs.cB (stringToUtf16 text)).slots.size = (stringBytes (stringToUtf16 text)).size := by
    rw [(Cell.writeAll_facts _ _).2.2]; simp [bytes0]
  have b2 : (stringAt Zs.cS Zs.kS Zs.fv Zs.fc (stringToUtf16 text) W.heap.size).slots.size = 4 := by simp [string0, Cell.setSlot, hn4]
  have b3 : (freshCell P1.m.cls kX).slots.size = 6 := by simp [hn6]
  rw [b1, b2, b3] at X5
  have e9 : slots + (stringBytes (stringToUtf16 text)).size + 4 + 6 = slots + ((stringBytes (stringToUtf16 text)).size + 4 + 6) := by omega
  rw [e9] at X5
  simp only [List.append_assoc, List.cons_append, List.nil_append] at X5
  refine ⟨((withThrown W Zs text P1.m.cls kX).setVm vm').setCell (W.heap.size + 2) (plainBareV T.toThrowableT (freshCell P1.m.cls kX) (W.heap.size + 2) u0 sen (.ref (W.heap.size + 1))), W.heap.size + 2, _, fun target ht => st _ (by rw [X.tail, ← hU]; exact ht),
    X5.forget (fun y hy => ?_), heapAt_setCell_self _ ha, hfound, rfl⟩
  simp only [List.mem_cons, List.not_mem_nil, or_false] at hy
  have hge : s.heap.size ≤ W.heap.size := X.same.2.1
  rcases hy with rfl | rfl | rfl | rfl | rfl <;> exact Nat.le_trans hge (Nat.le_add_right _ 2)
set_option maxHeartbeats 1000000 in
/-- the machine throws NullPointerException, no traces kept: from its note over the frame g to 'throwing' over the same frame (follows the proof of Stand.vmThrowsNpe, Shelf42/KT2.lean; throwsNpeColdBareVAt, Shelf42/NT91.lean, called) -/
theorem vx_npeAt {p : Program} {l : Launch} {e : Env} {R : Room} {s : State} {m₀ : MethodId} {args : Array Value} {below : List Frame} {meth : Method} {c : Code} {W : State} {locs : List Loc} {cells slots : Nat}
    (X : Stand p l e R s m₀ args below meth c W locs cells slots) (hexec : p.tables.exec = Jvm.exec) (htr : e.platform.stackTraces = false) {n : Nat}
    (h : ∀ a ∈ Bundle.npeArmAtoms n, a.before args s = true)
    (hlocs : ∀ x ∈ locs, ∀ cell, s.heap[x.base]? = some cell → cell.vm.isStatics = false)
    {g : JFrame} (hg : g.method = m₀) (hsize : g.locals.size = c.maxLocals)
    (hRframes : 7 < R.frames) (hRlocals : 2 * g.monitorRoom + (g.stack.map fun v => v.category).sum + 10240 ≤ R.locals)
    (hRcells : cells + 1 ≤ R.cells) (hRslots : slots + n ≤ R.slots) (hlocks : meth.locks = false) :
    ∃ (S : State) (q : Addr) (ce : Cell), (∀ target, Steps p.tables e below ((S.setTop g).pushFrame (.throwing q)) target → Steps p.tables e below ((W.setTop g).pushFrame (.throwNew "java/lang/NullPointerException" none none)) target) ∧
      Stand p l e R s m₀ args below meth c S locs (cells + 1) (slots + n) ∧ S.heap[q]? = some ce ∧ s.vm.findClass "java/lang/NullPointerException" = some ce.cls ∧ ce.vm = .none := by
  have howns : e.platform.frameOwnsMonitors = true := by rw [X.admits.platform]
  have hfin : e.platform.finalization = false := by rw [X.admits.platform]
  have hpl : e.platform.magicAccessors = ({} : Platform).magicAccessors := by rw [X.admits.platform]
  have hpl2 : e.platform.arrayCloneIsPublic = true := by rw [X.admits.platform]
  have a' : ∀ x, x ∈ Bundle.npeArmAtoms n → x.holds args s none s [] = true := fun x hx => h x hx
  obtain ⟨T, Z, L, LZ, Y⟩ := ThrowableC.of_atoms (args := args) howns hfin hpl (fun x hx => h x (by simp [Bundle.npeArmAtoms, hx]))
  obtain ⟨N, LN, hcN, hnNF, hordN, hffS⟩ := NpeC.of_atoms (args := args) hpl hpl2 L Y (fun x hx => h x (by simp [Bundle.npeArmAtoms, hx]))
  obtain ⟨P1, L1, hP1m, hP1s⟩ := PassC.of_atoms (args := args) (s := s) hpl (X := Bundle.nN) (Y := Bundle.rN) (by decide) (by decide) LibCode.NullPointerException.Init0.at_0 LibCode.NullPointerException.Init0.at_1 LibCode.NullPointerException.Init0.at_4 (fun x hx => h x (by simp [Bundle.npeArmAtoms, hx]))
  obtain ⟨PR, LR, hPRm, hPRs⟩ := PassC.of_atoms (args := args) (s := s) hpl (X := Bundle.rN) (Y := Bundle.eN) (by decide) (by decide) LibCode.RuntimeException.Init0.at_0 LibCode.RuntimeException.Init0.at_1 LibCode.RuntimeException.Init0.at_4 (fun x hx => h x (by simp [Bundle.npeArmAtoms, hx]))
  obtain ⟨PE, LEx, hPEm, hPEs⟩ := PassC.of_atoms (args := args) (s := s) hpl (X := Bundle.eN) (Y := Bundle.tN) (by decide) (by decide) LibCode.Exception.Init0.at_0 LibCode.Exception.Init0.at_1 LibCode.Exception.Init0.at_4 (fun x hx => h x (by simp [Bundle.npeArmAtoms, hx]))
  have hfound : s.vm.findClass Bundle.nN = some P1.m.cls := findClass_of_methodNamed hP1m
  have ecls : N.cN = P1.m.cls := Option.some.inj (hcN.symm.trans hfound)
  have hk : s.vm.classes[P1.m.cls]? = some N.kN := by rw [← ecls]; exact LN.cls
  have hinit := Cond.initialized_spec hfound hk (a' (.initialized Bundle.nN) (by simp [Bundle.npeArmAtoms]))
  have hctor : N.kN.findMethod "<init>" "()V" = some P1.m.idx := findMethod_of_methodNamed hP1m hk
  obtain ⟨c1, k1, hc1, hk1, -, -, -, hn⟩ := Cond.instantiable_spec (a' (.instantiable Bundle.nN n) (by simp [Bundle.npeArmAtoms]))
  cases Option.some.inj (hc1.symm.trans hfound)
  cases Option.some.inj (hk1.symm.trans hk)
  have hfsz : (freshCell P1.m.cls N.kN).slots.size = n := by simp [hn]
  have hlink1 : P1.sup = PR.m := Option.some.inj (hP1s.symm.trans hPRm)
  have hlinkR : PR.sup = PE.m := Option.some.inj (hPRs.symm.trans hPEm)
  have hlinkE : PE.sup = Z.m T.toThrowableT := Option.some.inj (hPEs.symm.trans Y.init0)
  have hLs : ∀ P, P ∈ [PR, PE] → P.Links0 e.platform s := fun P hP => by
    simp only [List.mem_cons, List.not_mem_nil, or_false] at hP
    rcases hP with rfl | rfl
    · exact LR
    · exact LEx
  have hsel0 : selectMethod e.platform s.vm P1.m.cls T.fill0 = .method T.fill0 := by
    obtain ⟨c2, r2, m2, q1, q2, q3, q4, -⟩ := Cond.selects_spec (a' (.selects Bundle.nN Bundle.tFill0 Bundle.tFill0) (by simp [Bundle.npeArmAtoms]))
    cases Option.some.inj (q1.symm.trans hfound)
    cases Option.some.inj (q2.symm.trans (State.methodFound?_of_named Y.fill0 (by decide)))
    cases Option.some.inj (q3.symm.trans Y.fill0)
    rw [Launch.admits_selectMethod X.admits]; exact q4
  have hselF : selectMethod e.platform s.vm P1.m.cls T.fill = .method N.fill := by
    obtain ⟨c2, r2, m2, q1, q2, q3, q4, -⟩ := Cond.selects_spec (a' (.selects Bundle.nN Bundle.tFill Bundle.nFill) (by simp [Bundle.npeArmAtoms]))
    cases Option.some.inj (q1.symm.trans hfound)
    cases Option.some.inj (q2.symm.trans (State.methodFound?_of_named Y.fill (by decide)))
    cases Option.some.inj (q3.symm.trans hnNF)
    rw [Launch.admits_selectMethod X.admits]; exact q4
  obtain ⟨cellS0, hcS0, hiss⟩ := Y.statics
  obtain ⟨u0, hu0⟩ := Cond.staticRefV Y.unassigned L.unassignedStatic L.statics hcS0 hiss (a' (.isRef (.static Bundle.tN "UNASSIGNED_STACK" Bundle.steD)) (by simp [Bundle.npeArmAtoms]))
  obtain ⟨sen, hsen⟩ := Cond.staticRefV Y.sentinel L.sentinelStatic L.statics hcS0 hiss (a' (.isRef (.static Bundle.tN "SUPPRESSED_SENTINEL" Bundle.listD)) (by simp [Bundle.npeArmAtoms]))
  obtain ⟨ci198, i198, fB, hk198, hg198, ha198, hsB, -, hnB, htB, hffB⟩ := Cond.ownField (t := .object "java/lang/Object") Y.found L.cls (by decide +kernel) (a' (.fieldLink Bundle.tN 198 Bundle.tN "backtrace" Bundle.objD) (by simp [Bundle.npeArmAtoms])) (a' (.lays Bundle.tN Bundle.tN "backtrace" Bundle.objD) (by simp [Bundle.npeArmAtoms])) e.platform hpl
  obtain ⟨cellS, hcS', heS, -, hkeep⟩ := X.same.2.2.2.2.2 T.aS cellS0 hcS0
  have hcellS : W.heap[T.aS]? = some cellS := hcS'
  have hout' : ∀ i, (⟨T.aS, i⟩ : Loc) ∉ locs := fun i hmem => by
    have := hlocs _ hmem cellS0 hcS0
    rw [hiss] at this; cases this
  have hknownS : cellS.vm ≠ .unknown := by
    rw [heS]; intro hu
    rw [show cellS0.vm = .unknown from hu] at hiss
    cases hiss
  have hvU : cellS.slots[T.fUnassigned.slot]? = some u0.v := by rw [hkeep _ (hout' _)]; exact hu0
  have hvSen : cellS.slots[T.fSentinel.slot]? = some sen.v := by rw [hkeep _ (hout' _)]; exact hsen
  obtain ⟨tyC, dC, hdC, hdnC⟩ := Cond.laysAt hfound hk Y.cause (a' (.lays Bundle.nN Bundle.tN "cause" "Ljava/lang/Throwable;") (by simp [Bundle.npeArmAtoms]))
  obtain ⟨tyS, dS, hdS, hdnS⟩ := Cond.laysAt hfound hk Y.stack (a' (.lays Bundle.nN Bundle.tN "stackTrace" Bundle.steD) (by simp [Bundle.npeArmAtoms]))
  obtain ⟨tyP, dP, hdP, hdnP⟩ := Cond.laysAt hfound hk Y.supp (a' (.lays Bundle.nN Bundle.tN "suppressedExceptions" Bundle.listD) (by simp [Bundle.npeArmAtoms]))
  obtain ⟨tyX, dX, hdX, hdnX⟩ := Cond.laysAt hfound hk hffS (a' (.lays Bundle.nN Bundle.nN "extendedMessageState" "I") (by simp [Bundle.npeArmAtoms, Bundle.npeAtoms]))
  obtain ⟨hnX, htX⟩ := State.fieldFound?_type hffS (t := .int) (by decide +kernel)
  have xC := Cond.laysApart hdC hdX hdnC hdnX (by rw [hnX, Y.causeName]; decide)
  have xS := Cond.laysApart hdS hdX hdnS hdnX (by rw [hnX, Y.stackName]; decide)
  have xP := Cond.laysApart hdP hdX hdnP hdnX (by rw [hnX, Y.suppName]; decide)
  have hv0 : (freshCell P1.m.cls N.kN).slots[N.fState.slot]? = some (.int 0) := by
    have := fresh_default (c := P1.m.cls) tyX
    rw [htX] at this; exact this
  obtain ⟨tyB, dB, hdB, hdnB⟩ := Cond.laysAt hfound hk hffB (a' (.lays Bundle.nN Bundle.tN "backtrace" Bundle.objD) (by simp [Bundle.npeArmAtoms]))
  have bC := Cond.laysApart hdB hdC hdnB hdnC (by rw [hnB, Y.causeName]; decide)
  have bS := Cond.laysApart hdB hdS hdnB hdnS (by rw [hnB, Y.stackName]; decide)
  have bP := Cond.laysApart hdB hdP hdnB hdnP (by rw [hnB, Y.suppName]; decide)
  have bX := Cond.laysApart hdB hdX hdnB hdnX (by rw [hnB, hnX]; decide)
  have hbk : ((npeCell N.toNpeT (preparedCellV T.toThrowableT (freshCell P1.m.cls N.kN) W.heap.size u0 sen) W.cur).withEntry W.cur).slots[fB.slot]? = some .null := by
    have := fresh_default (c := P1.m.cls) tyB
    rw [htB] at this
    simpa [npeCell, preparedCellV, Cell.setSlot, Cell.withEntry, Array.getElem?_setIfInBounds, bC, bS, bP, bX, bC.symm, bS.symm, bP.symm, bX.symm, defaultValue] using this
  have tkC := Takes.of_laid (v := .ref W.heap.size) hk hordN tyC (by rw [Y.causeType]; rfl)
  have tkS := Takes.of_laid (v := u0.v) hk hordN tyS (by rw [Y.stackType]; exact fits_refV_array _ u0)
  have tkP := Takes.of_laid (v := sen.v) hk hordN tyP (by rw [Y.suppType]; exact fits_refV_object _ sen)
  have tkX := Takes.of_laid (v := .int 1) hk hordN tyX (by rw [htX]; rfl)
  have hskip : SkipFacts T e.platform s (fun u => u) u0 ((npeCell N.toNpeT (preparedCellV T.toThrowableT (freshCell P1.m.cls N.kN) W.heap.size u0 sen) W.cur).withEntry W.cur) := ⟨{ ci198 := ci198, i198 := i198, fBack := fB }, ⟨hk198, hg198, ha198, hsB⟩, hbk, fun _ _ => rfl⟩
  obtain ⟨vm', X3, st, -⟩ := X.throwsNpeColdBareVAt hexec hg hsize T L Z LZ N LN P1 L1 [PR, PE] hLs hlink1 ⟨hlinkR, hlinkE, trivial⟩ hfound hk hinit hordN hctor hsel0 hselF hcellS hknownS hvU hvSen
    hv0 xC xS xP tkC tkS tkP tkX Y.objLocals hskip (fun _ _ hA hW _ hroom _ hrest => L.nativeOff p htr hA hW hroom hrest) (by simpa using hRframes) hRlocals (by simp) hRcells (by rw [hn]; exact hRslots)
  have hlt : W.heap.size < ((W.pushCell (freshCell P1.m.cls N.kN)).setVm vm').heap.size := by
    show W.heap.size < (W.pushCell (freshCell P1.m.cls N.kN)).heap.size
    rw [State.heap_size_pushCell]; omega
  rw [hfsz] at X3
  obtain ⟨g₁, hfrM⟩ := X3.frames_eq
  have hU : ((((W.pushCell (freshCell P1.m.cls N.kN)).setVm vm').setCell W.heap.size (npeBareV T.toThrowableT N.toNpeT (freshCell P1.m.cls N.kN) W.heap.size u0 sen)).setTop g).pushFrame (.throwing W.heap.size) = (((W.pushCell (freshCell P1.m.cls N.kN)).setVm vm').setCell W.heap.size (npeBareV T.toThrowableT N.toNpeT (freshCell P1.m.cls N.kN) W.heap.size u0 sen)).setFrames (.throwing W.heap.size :: .java g :: below) := by
    rw [State.pushFrame, State.frames_setTop _ hfrM, State.setTop_of_frames _ hfrM, State.setFrames_setFrames]
  refine ⟨_, W.heap.size, _, fun target ht => st.trans (by rw [← hU]; exact ht), X3.forget (fun y hy => ?_), heapAt_setCell_self _ hlt, hfound, rfl⟩
  simp only [List.mem_cons, List.not_mem_nil, or_false] at hy
  have hge : s.heap.size ≤ W.heap.size := X.same.2.1
  rcases hy with rfl | rfl | rfl | rfl | rfl <;> exact hge
/-- the words of a machine's NullPointerException, but the four that speak of the heap -/
def vx_atN (n : Nat) : List Cond := (Bundle.npeArmAtoms n).filter vx_no
/-- the words of a machine's throw with a message, but the four that speak of the heap -/
def vx_atM (X : String) (names : List String) : List Cond := (Bundle.messageArmAtoms X names).filter vx_no
section
variable {p : Program} {l : Launch} {e : Env} {R : Room} {s : State} {m : MethodId} {args : Array Value} {below : List Frame} {meth : Method} {c : Code} {H : Heap} {locs : List Loc} {cells slots : Nat}
/-- a frame seen from a rebased start, seen from the first start again -/
theorem vx_back9 {T S : State} {R' : Room} {k n : Nat} (X : Stand p l e R s m args below meth c T locs cells slots) (Y : Stand p l e R' ((T.setVm s.vm).setFrames (.invoking m args :: below)) m args below meth c T [] 0 0) (Z : Stand p l e R' ((T.setVm s.vm).setFrames (.invoking m args :: below)) m args below meth c S [] k n) :
    Stand p l e R s m args below meth c S locs (cells + k) (slots + n) := by
  have hW0 : s.WarmedH ((T.setVm s.vm).setFrames (.invoking m args :: below)).vm := State.WarmedH.refl s
  refine { admits := X.admits, cas := X.cas, clock := X.clock, frames := X.frames, room := X.room, hears := X.hears, method := X.method, code := X.code, here := Z.here, tail := Z.tail, warmed := State.WarmedH.trans hW0 Z.warmed, limits := Z.limits.trans (Y.limits.symm.trans X.limits), bytes := Z.bytes.trans (Y.bytes.symm.trans X.bytes), same := ?_ }
  obtain ⟨e1, e2⟩ := Z.same
  rw [State.setFrames_setFrames] at e1
  have h2 : (T.setVm s.vm).sameButNew (S.setVm s.vm) [] k n := ⟨e1, e2⟩
  have h3 := X.same.trans h2
  rw [List.append_nil] at h3
  exact h3
/-- from the machine's note that E is thrown here with this text -/
def vx_Note (p : Program) (l : Launch) (e : Env) (R : Room) (s : State) (m : MethodId) (args : Array Value) (below : List Frame) (meth : Method) (c : Code) (H : Heap) (locs : List Loc) (cells slots : Nat) (Q : State → Prop) (g : JFrame) (E text : String) : Prop :=
  ∀ T : State, T.heap = H → Stand p l e R s m args below meth c T locs cells slots → ∃ t, Steps p.tables e below ((T.setTop g).pushFrame (.throwNew E (some text) none)) t ∧ Q t
theorem vx_vm {pc : Nat} {ls : Array Slot} {rest : List Value} {Q : State → Prop} (hexec : p.tables.exec = Jvm.exec) (hl : l.stackTraces = false) {cls text : String} {names : List String} {nb : Nat} {A : Nat → Prop}
    (hcls : Bundle.fit cls = true) (hnames : ∀ n ∈ names, Bundle.fit n = true) (hsoe : (cls == "java/lang/StackOverflowError") = false) (hoom : (cls == "java/lang/OutOfMemoryError") = false)
    (hat : ∀ w ∈ vx_atM cls names, w.before args s = true) (hgood : ∀ w ∈ vx_atM cls names, vx_ot w = true)
    (hU : vx_Zq Bundle.tN "UNASSIGNED_STACK" Bundle.steD A s s.heap) (hN : vx_Zq Bundle.tN "SUPPRESSED_SENTINEL" Bundle.listD A s s.heap) (hS : va_S A s.heap H locs) (hsize : ls.size = c.maxLocals)
    (htext : (text == notModelled) = false) (hnb : (stringBytes (stringToUtf16 text)).size ≤ nb) (hnb1 : nb ≤ 1000)
    (hRframes : names.length + 4 < R.frames) (hRlocals : (rest.map fun v => v.category).sum + 10240 ≤ R.locals) (hshort : 13 * names.length + 55 ≤ 10240) (hRcells : cells + 3 ≤ R.cells) (hRslots : slots + (nb + 10) ≤ R.slots) (hlocks : meth.locks = false)
    (k : ∀ (H1 : Heap) (q9 : Addr) (ce : Cell), H.size ≤ H1.size → (∀ q : Nat, q < H.size → H1[q]? = H[q]?) → va_S A s.heap H1 locs → H1[q9]? = some ce → ce.vm = .none → s.vm.findClass cls = some ce.cls → vx_W p l e R s m args below meth c H1 locs (cells + 3) (slots + (nb + 10)) Q (F0 m pc ls rest) q9) :
    vx_Note p l e R s m args below meth c H locs cells slots Q (F0 m pc ls rest) cls text := by
  intro T hT X
  have htr : e.platform.stackTraces = false := (show e.platform.stackTraces = l.stackTraces by rw [X.admits.platform]).trans hl
  have Y := vx_rebase X (R' := { frames := R.frames, locals := R.locals, cells := 3, slots := nb + 10 }) (Nat.le_refl _) (Nat.le_refl _) hRcells hRslots
  have hhp : ((T.setVm s.vm).setFrames (.invoking m args :: below)).heap = H := hT
  have hW0 : s.WarmedH ((T.setVm s.vm).setFrames (.invoking m args :: below)).vm := State.WarmedH.refl s
  have hat' : ∀ w ∈ vx_atM cls names, w.before args ((T.setVm s.vm).setFrames (.invoking m args :: below)) = true := fun w hw => vx_ot_at hW0 rfl (hgood w hw) (hat w hw)
  have hU' : vx_Zq Bundle.tN "UNASSIGNED_STACK" Bundle.steD A ((T.setVm s.vm).setFrames (.invoking m args :: below)) ((T.setVm s.vm).setFrames (.invoking m args :: below)).heap := by rw [hhp]; exact vx_Zq.moved hW0.alike (hU.kept hS.2.1)
  have hN' : vx_Zq Bundle.tN "SUPPRESSED_SENTINEL" Bundle.listD A ((T.setVm s.vm).setFrames (.invoking m args :: below)) ((T.setVm s.vm).setFrames (.invoking m args :: below)).heap := by rw [hhp]; exact vx_Zq.moved hW0.alike (hN.kept hS.2.1)
  obtain ⟨S, q, ce, st, Z, hce, hcl', hv⟩ := vx_vmAt Y hexec htr (cls := cls) (names := names) (text := text) hcls hnames hsoe hoom (vx_own hat' (vx_isRefq hU'.1) (vx_isRefq hN'.1) hU'.2.word hN'.2.word) (fun x hx => nomatch hx) htext
    (by rw [Launch.admits_arrayLengthLimit X.admits]; omega) (by rw [Launch.admits_maxHeapBytes X.admits]; simp only [componentBytes]; omega)
    (g := F0 m pc ls rest) rfl hsize hRframes (by show 2 * 0 + (rest.map fun v => v.category).sum + 10240 ≤ R.locals; omega) hshort (by show 0 + 3 ≤ 3; omega) (by show 0 + (_ + 4 + 6) ≤ nb + 10; omega) hlocks
  obtain ⟨f1, f2⟩ := vx_frame Z.same
  have f1' : H.size ≤ S.heap.size := by rw [← hT]; exact f1
  have f2' : ∀ q : Nat, q < H.size → S.heap[q]? = H[q]? := fun q hq => by
    rw [← hT]
    exact f2 q (by rw [← hT] at hq; exact hq) (fun z hz => nomatch hz)
  have X5 := vx_back9 X Y Z
  have X6 : Stand p l e R s m args below meth c S locs (cells + 3) (slots + (nb + 10)) := { X5 with same := X5.same.mono (by omega) (by omega) }
  obtain ⟨t, a1, b1⟩ := k S.heap q ce f1' f2' ⟨Nat.le_trans hS.1 f1', fun q h1 h2 => (f2' q (Nat.lt_of_lt_of_le h1 hS.1)).trans (hS.2.1 q h1 h2), hS.2.2⟩ hce hv hcl' S rfl X6
  exact ⟨t, st t a1, b1⟩
/-- from the machine's note that NullPointerException is thrown here -/
def vx_NoteN (p : Program) (l : Launch) (e : Env) (R : Room) (s : State) (m : MethodId) (args : Array Value) (below : List Frame) (meth : Method) (c : Code) (H : Heap) (locs : List Loc) (cells slots : Nat) (Q : State → Prop) (g : JFrame) : Prop :=
  ∀ T : State, T.heap = H → Stand p l e R s m args below meth c T locs cells slots → ∃ t, Steps p.tables e below ((T.setTop g).pushFrame (.throwNew "java/lang/NullPointerException" none none)) t ∧ Q t
theorem vx_npe {pc : Nat} {ls : Array Slot} {rest : List Value} {Q : State → Prop} (hexec : p.tables.exec = Jvm.exec) (hl : l.stackTraces = false) {nb : Nat} {A : Nat → Prop}
    (hat : ∀ w ∈ vx_atN nb, w.before args s = true) (hgood : ∀ w ∈ vx_atN nb, vx_ot w = true)
    (hU : vx_Zq Bundle.tN "UNASSIGNED_STACK" Bundle.steD A s s.heap) (hN : vx_Zq Bundle.tN "SUPPRESSED_SENTINEL" Bundle.listD A s s.heap) (hS : va_S A s.heap H locs) (hsize : ls.size = c.maxLocals)
    (hRframes : 7 < R.frames) (hRlocals : (rest.map fun v => v.category).sum + 10240 ≤ R.locals) (hRcells : cells + 1 ≤ R.cells) (hRslots : slots + nb ≤ R.slots) (hlocks : meth.locks = false)
    (k : ∀ (H1 : Heap) (q9 : Addr) (ce : Cell), H.size ≤ H1.size → (∀ q : Nat, q < H.size → H1[q]? = H[q]?) → va_S A s.heap H1 locs → H1[q9]? = some ce → ce.vm = .none → s.vm.findClass "java/lang/NullPointerException" = some ce.cls → vx_W p l e R s m args below meth c H1 locs (cells + 1) (slots + nb) Q (F0 m pc ls rest) q9) :
    vx_NoteN p l e R s m args below meth c H locs cells slots Q (F0 m pc ls rest) := by
  intro T hT X
  have htr : e.platform.stackTraces = false := (show e.platform.stackTraces = l.stackTraces by rw [X.admits.platform]).trans hl
  have Y := vx_rebase X (R' := { frames := R.frames, locals := R.locals, cells := 1, slots := nb }) (Nat.le_refl _) (Nat.le_refl _) hRcells hRslots
  have hhp : ((T.setVm s.vm).setFrames (.invoking m args :: below)).heap = H := hT
  have hW0 : s.WarmedH ((T.setVm s.vm).setFrames (.invoking m args :: below)).vm := State.WarmedH.refl s
  have hat' : ∀ w ∈ vx_atN nb, w.before args ((T.setVm s.vm).setFrames (.invoking m args :: below)) = true := fun w hw => vx_ot_at hW0 rfl (hgood w hw) (hat w hw)
  have hU' : vx_Zq Bundle.tN "UNASSIGNED_STACK" Bundle.steD A ((T.setVm s.vm).setFrames (.invoking m args :: below)) ((T.setVm s.vm).setFrames (.invoking m args :: below)).heap := by rw [hhp]; exact vx_Zq.moved hW0.alike (hU.kept hS.2.1)
  have hN' : vx_Zq Bundle.tN "SUPPRESSED_SENTINEL" Bundle.listD A ((T.setVm s.vm).setFrames (.invoking m args :: below)) ((T.setVm s.vm).setFrames (.invoking m args :: below)).heap := by rw [hhp]; exact vx_Zq.moved hW0.alike (hN.kept hS.2.1)
  obtain ⟨S, q, ce, st, Z, hce, hcl', hv⟩ := vx_npeAt Y hexec htr (n := nb) (vx_own hat' (vx_isRefq hU'.1) (vx_isRefq hN'.1) hU'.2.word hN'.2.word) (fun x hx => nomatch hx)
    (g := F0 m pc ls rest) rfl hsize hRframes (by show 2 * 0 + (rest.map fun v => v.category).sum + 10240 ≤ R.locals; omega) (by show 0 + 1 ≤ 1; omega) (by show 0 + nb ≤ nb; omega) hlocks
  obtain ⟨f1, f2⟩ := vx_frame Z.same
  have f1' : H.size ≤ S.heap.size := by rw [← hT]; exact f1
  have f2' : ∀ q : Nat, q < H.size → S.heap[q]? = H[q]? := fun q hq => by
    rw [← hT]
    exact f2 q (by rw [← hT] at hq; exact hq) (fun z hz => nomatch hz)
  have X5 := vx_back9 X Y Z
  have X6 : Stand p l e R s m args below meth c S locs (cells + 1) (slots + nb) := { X5 with same := X5.same.mono (by omega) (by omega) }
  obtain ⟨t, a1, b1⟩ := k S.heap q ce f1' f2' ⟨Nat.le_trans hS.1 f1', fun q h1 h2 => (f2' q (Nat.lt_of_lt_of_le h1 hS.1)).trans (hS.2.1 q h1 h2), hS.2.2⟩ hce hv hcl' S rfl X6
  exact ⟨t, st t a1, b1⟩
variable {Q : State → Prop} {cc : ByteArray} {pc : Nat} {ls : Array Slot} {rest : List Value}
theorem vx_idivZ (hexec : p.tables.exec = Jvm.exec) (hb : c.code = cc) {a b : Int32} (h0 : b = 0) (d : decode cc pc = .ok (.idiv, 1)) (k : vx_Note p l e R s m args below meth c H locs cells slots Q (F0 m pc ls rest) "java/lang/ArithmeticException" "/ by zero") :
    W p l e R s m args below meth c H locs cells slots Q (F0 m pc ls (.int b :: .int a :: rest)) := by
  intro T hT X
  obtain ⟨t, st, q⟩ := k T hT X
  exact ⟨t, X.idivZero hexec (g := F0 m pc ls (.int b :: .int a :: rest)) rfl (a := a) (rest := rest) (by rw [h0]) (by rw [hb]; exact d) t st, q⟩
theorem vx_iremZ (hexec : p.tables.exec = Jvm.exec) (hb : c.code = cc) {a b : Int32} (h0 : b = 0) (d : decode cc pc = .ok (.irem, 1)) (k : vx_Note p l e R s m args below meth c H locs cells slots Q (F0 m pc ls rest) "java/lang/ArithmeticException" "/ by zero") :
    W p l e R s m args below meth c H locs cells slots Q (F0 m pc ls (.int b :: .int a :: rest)) := by
  intro T hT X
  obtain ⟨t, st, q⟩ := k T hT X
  exact ⟨t, X.iremZero hexec (g := F0 m pc ls (.int b :: .int a :: rest)) rfl (a := a) (rest := rest) (by rw [h0]) (by rw [hb]; exact d) t st, q⟩
theorem vx_ldivZ (hexec : p.tables.exec = Jvm.exec) (hb : c.code = cc) {a b : Int64} (h0 : b = 0) (d : decode cc pc = .ok (.ldiv, 1)) (k : vx_Note p l e R s m args below meth c H locs cells slots Q (F0 m pc ls rest) "java/lang/ArithmeticException" "/ by zero") :
    W p l e R s m args below meth c H locs cells slots Q (F0 m pc ls (.long b :: .long a :: rest)) := by
  intro T hT X
  obtain ⟨t, st, q⟩ := k T hT X
  exact ⟨t, X.ldivZero hexec (g := F0 m pc ls (.long b :: .long a :: rest)) rfl (a := a) (rest := rest) (by rw [h0]) (by rw [hb]; exact d) t st, q⟩
theorem vx_lremZ (hexec : p.tables.exec = Jvm.exec) (hb : c.code = cc) {a b : Int64} (h0 : b = 0) (d : decode cc pc = .ok (.lrem, 1)) (k : vx_Note p l e R s m args below meth c H locs cells slots Q (F0 m pc ls rest) "java/lang/ArithmeticException" "/ by zero") :
    W p l e R s m args below meth c H locs cells slots Q (F0 m pc ls (.long b :: .long a :: rest)) := by
  intro T hT X
  obtain ⟨t, st, q⟩ := k T hT X
  exact ⟨t, X.lremZero hexec (g := F0 m pc ls (.long b :: .long a :: rest)) rfl (a := a) (rest := rest) (by rw [h0]) (by rw [hb]; exact d) t st, q⟩
theorem vx_ialdZ {D : va_G} {cl : List vw_C} {ws : va_W} {tys : List (ClassId × FieldType)} {a : Nat} (hexec : p.tables.exec = Jvm.exec) (hb : c.code = cc) (hK : va_K D cl tys s) (hP : va_P D cl ws H) (q0 t0 : Nat) {cA : ClassId} {n : Nat} {f : Nat → Int32} (ha : ws[q0]? = some (a, .inl (cA, n, .inl f))) (ht : tys[t0]? = some (cA, .int)) {i : Int32} (hout : ¬ vp_in i n) (hdg : decode cc pc = .ok (.iaload, 1))
    (k : ∀ tx : String, tx = (toString "Index " ++ toString i ++ toString " out of bounds for length " ++ toString n : String) → vx_Note p l e R s m args below meth c H locs cells slots Q (F0 m pc ls rest) "java/lang/ArrayIndexOutOfBoundsException" tx) : W p l e R s m args below meth c H locs cells slots Q (F0 m pc ls (.int i :: .ref a :: rest)) := by
  intro T hT X
  obtain ⟨t, st, q⟩ := k _ rfl T hT X
  refine ⟨t, ?_, q⟩
  have h1 := X.ialoadOut hexec (by rw [hT]; exact hP q0 _ ha) ((hK.2 t0 _ ht).1 n (fun j => .int (f j))) (j := i) (by show (i < 0 ∨ (arrV _ _ _).slots.size ≤ _); rw [arrV_size]; exact Classical.byContradiction hout) (g := F0 m pc ls (.int i :: .ref a :: rest)) rfl (rest := rest) rfl (by rw [hb]; exact hdg) t
  simp only [arrV_size] at h1
  exact h1 st
theorem vx_iastZ {D : va_G} {cl : List vw_C} {ws : va_W} {tys : List (ClassId × FieldType)} {a : Nat} (hexec : p.tables.exec = Jvm.exec) (hb : c.code = cc) (hK : va_K D cl tys s) (hP : va_P D cl ws H) (q0 t0 : Nat) {cA : ClassId} {n : Nat} {f : Nat → Int32} (ha : ws[q0]? = some (a, .inl (cA, n, .inl f))) (ht : tys[t0]? = some (cA, .int)) {i : Int32} {x : Int32} (hout : ¬ vp_in i n) (hdg : decode cc pc = .ok (.iastore, 1))
    (k : ∀ tx : String, tx = (toString "Index " ++ toString i ++ toString " out of bounds for length " ++ toString n : String) → vx_Note p l e R s m args below meth c H locs cells slots Q (F0 m pc ls rest) "java/lang/ArrayIndexOutOfBoundsException" tx) : W p l e R s m args below meth c H locs cells slots Q (F0 m pc ls (.int x :: .int i :: .ref a :: rest)) := by
  intro T hT X
  obtain ⟨t, st, q⟩ := k _ rfl T hT X
  refine ⟨t, ?_, q⟩
  have h1 := X.iastoreOut hexec (by rw [hT]; exact hP q0 _ ha) ((hK.2 t0 _ ht).1 n (fun j => .int (f j))) (j := i) (by show (i < 0 ∨ (arrV _ _ _).slots.size ≤ _); rw [arrV_size]; exact Classical.byContradiction hout) (g := F0 m pc ls (.int x :: .int i :: .ref a :: rest)) rfl (rest := rest) rfl (by rw [hb]; exact hdg) t
  simp only [arrV_size] at h1
  exact h1 st
theorem vx_baldZ {D : va_G} {cl : List vw_C} {ws : va_W} {tys : List (ClassId × FieldType)} {a : Nat} (hexec : p.tables.exec = Jvm.exec) (hb : c.code = cc) (hK : va_K D cl tys s) (hP : va_P D cl ws H) (q0 t0 : Nat) {cA : ClassId} {n : Nat} {f : Nat → Int32} (ha : ws[q0]? = some (a, .inl (cA, n, .inl f))) (ht : tys[t0]? = some (cA, .byte)) {i : Int32} (hout : ¬ vp_in i n) (hdg : decode cc pc = .ok (.baload, 1))
    (k : ∀ tx : String, tx = (toString "Index " ++ toString i ++ toString " out of bounds for length " ++ toString n : String) → vx_Note p l e R s m args below meth c H locs cells slots Q (F0 m pc ls rest) "java/lang/ArrayIndexOutOfBoundsException" tx) : W p l e R s m args below meth c H locs cells slots Q (F0 m pc ls (.int i :: .ref a :: rest)) := by
  intro T hT X
  obtain ⟨t, st, q⟩ := k _ rfl T hT X
  refine ⟨t, ?_, q⟩
  have h1 := X.baloadOut hexec (by rw [hT]; exact hP q0 _ ha) ((hK.2 t0 _ ht).1 n (fun j => .int (f j))) (j := i) (by show (i < 0 ∨ (arrV _ _ _).slots.size ≤ _); rw [arrV_size]; exact Classical.byContradiction hout) (g := F0 m pc ls (.int i :: .ref a :: rest)) rfl (rest := rest) rfl (by rw [hb]; exact hdg) t
  simp only [arrV_size] at h1
  exact h1 st
theorem vx_bastZ {D : va_G} {cl : List vw_C} {ws : va_W} {tys : List (ClassId × FieldType)} {a : Nat} (hexec : p.tables.exec = Jvm.exec) (hb : c.code = cc) (hK : va_K D cl tys s) (hP : va_P D cl ws H) (q0 t0 : Nat) {cA : ClassId} {n : Nat} {f : Nat → Int32} (ha : ws[q0]? = some (a, .inl (cA, n, .inl f))) (ht : tys[t0]? = some (cA, .byte)) {i : Int32} {x : Int32} (hout : ¬ vp_in i n) (hdg : decode cc pc = .ok (.bastore, 1))
    (k : ∀ tx : String, tx = (toString "Index " ++ toString i ++ toString " out of bounds for length " ++ toString n : String) → vx_Note p l e R s m args below meth c H locs cells slots Q (F0 m pc ls rest) "java/lang/ArrayIndexOutOfBoundsException" tx) : W p l e R s m args below meth c H locs cells slots Q (F0 m pc ls (.int x :: .int i :: .ref a :: rest)) := by
  intro T hT X
  obtain ⟨t, st, q⟩ := k _ rfl T hT X
  refine ⟨t, ?_, q⟩
  have h1 := X.bastoreOut hexec (by rw [hT]; exact hP q0 _ ha) ((hK.2 t0 _ ht).1 n (fun j => .int (f j))) (j := i) (by show (i < 0 ∨ (arrV _ _ _).slots.size ≤ _); rw [arrV_size]; exact Classical.byContradiction hout) (g := F0 m pc ls (.int x :: .int i :: .ref a :: rest)) rfl (rest := rest) rfl (by rw [hb]; exact hdg) t
  simp only [arrV_size] at h1
  exact h1 st
theorem vx_zaldZ {D : va_G} {cl : List vw_C} {ws : va_W} {tys : List (ClassId × FieldType)} {a : Nat} (hexec : p.tables.exec = Jvm.exec) (hb : c.code = cc) (hK : va_K D cl tys s) (hP : va_P D cl ws H) (q0 t0 : Nat) {cA : ClassId} {n : Nat} {f : Nat → Int32} (ha : ws[q0]? = some (a, .inl (cA, n, .inl f))) (ht : tys[t0]? = some (cA, .boolean)) {i : Int32} (hout : ¬ vp_in i n) (hdg : decode cc pc = .ok (.baload, 1))
    (k : ∀ tx : String, tx = (toString "Index " ++ toString i ++ toString " out of bounds for length " ++ toString n : String) → vx_Note p l e R s m args below meth c H locs cells slots Q (F0 m pc ls rest) "java/lang/ArrayIndexOutOfBoundsException" tx) : W p l e R s m args below meth c H locs cells slots Q (F0 m pc ls (.int i :: .ref a :: rest)) := by
  intro T hT X
  obtain ⟨t, st, q⟩ := k _ rfl T hT X
  refine ⟨t, ?_, q⟩
  have h1 := X.baloadOut hexec (by rw [hT]; exact hP q0 _ ha) ((hK.2 t0 _ ht).1 n (fun j => .int (f j))) (j := i) (by show (i < 0 ∨ (arrV _ _ _).slots.size ≤ _); rw [arrV_size]; exact Classical.byContradiction hout) (g := F0 m pc ls (.int i :: .ref a :: rest)) rfl (rest := rest) rfl (by rw [hb]; exact hdg) t
  simp only [arrV_size] at h1
  exact h1 st
theorem vx_zastZ {D : va_G} {cl : List vw_C} {ws : va_W} {tys : List (ClassId × FieldType)} {a : Nat} (hexec : p.tables.exec = Jvm.exec) (hb : c.code = cc) (hK : va_K D cl tys s) (hP : va_P D cl ws H) (q0 t0 : Nat) {cA : ClassId} {n : Nat} {f : Nat → Int32} (ha : ws[q0]? = some (a, .inl (cA, n, .inl f))) (ht : tys[t0]? = some (cA, .boolean)) {i : Int32} {x : Int32} (hout : ¬ vp_in i n) (hdg : decode cc pc = .ok (.bastore, 1))
    (k : ∀ tx : String, tx = (toString "Index " ++ toString i ++ toString " out of bounds for length " ++ toString n : String) → vx_Note p l e R s m args below meth c H locs cells slots Q (F0 m pc ls rest) "java/lang/ArrayIndexOutOfBoundsException" tx) : W p l e R s m args below meth c H locs cells slots Q (F0 m pc ls (.int x :: .int i :: .ref a :: rest)) := by
  intro T hT X
  obtain ⟨t, st, q⟩ := k _ rfl T hT X
  refine ⟨t, ?_, q⟩
  have h1 := X.bastoreOut hexec (by rw [hT]; exact hP q0 _ ha) ((hK.2 t0 _ ht).1 n (fun j => .int (f j))) (j := i) (by show (i < 0 ∨ (arrV _ _ _).slots.size ≤ _); rw [arrV_size]; exact Classical.byContradiction hout) (g := F0 m pc ls (.int x :: .int i :: .ref a :: rest)) rfl (rest := rest) rfl (by rw [hb]; exact hdg) t
  simp only [arrV_size] at h1
  exact h1 st
theorem vx_caldZ {D : va_G} {cl : List vw_C} {ws : va_W} {tys : List (ClassId × FieldType)} {a : Nat} (hexec : p.tables.exec = Jvm.exec) (hb : c.code = cc) (hK : va_K D cl tys s) (hP : va_P D cl ws H) (q0 t0 : Nat) {cA : ClassId} {n : Nat} {f : Nat → Int32} (ha : ws[q0]? = some (a, .inl (cA, n, .inl f))) (ht : tys[t0]? = some (cA, .char)) {i : Int32} (hout : ¬ vp_in i n) (hdg : decode cc pc = .ok (.caload, 1))
    (k : ∀ tx : String, tx = (toString "Index " ++ toString i ++ toString " out of bounds for length " ++ toString n : String) → vx_Note p l e R s m args below meth c H locs cells slots Q (F0 m pc ls rest) "java/lang/ArrayIndexOutOfBoundsException" tx) : W p l e R s m args below meth c H locs cells slots Q (F0 m pc ls (.int i :: .ref a :: rest)) := by
  intro T hT X
  obtain ⟨t, st, q⟩ := k _ rfl T hT X
  refine ⟨t, ?_, q⟩
  have h1 := X.caloadOut hexec (by rw [hT]; exact hP q0 _ ha) ((hK.2 t0 _ ht).1 n (fun j => .int (f j))) (j := i) (by show (i < 0 ∨ (arrV _ _ _).slots.size ≤ _); rw [arrV_size]; exact Classical.byContradiction hout) (g := F0 m pc ls (.int i :: .ref a :: rest)) rfl (rest := rest) rfl (by rw [hb]; exact hdg) t
  simp only [arrV_size] at h1
  exact h1 st
theorem vx_castZ {D : va_G} {cl : List vw_C} {ws : va_W} {tys : List (ClassId × FieldType)} {a : Nat} (hexec : p.tables.exec = Jvm.exec) (hb : c.code = cc) (hK : va_K D cl tys s) (hP : va_P D cl ws H) (q0 t0 : Nat) {cA : ClassId} {n : Nat} {f : Nat → Int32} (ha : ws[q0]? = some (a, .inl (cA, n, .inl f))) (ht : tys[t0]? = some (cA, .char)) {i : Int32} {x : Int32} (hout : ¬ vp_in i n) (hdg : decode cc pc = .ok (.castore, 1))
    (k : ∀ tx : String, tx = (toString "Index " ++ toString i ++ toString " out of bounds for length " ++ toString n : String) → vx_Note p l e R s m args below meth c H locs cells slots Q (F0 m pc ls rest) "java/lang/ArrayIndexOutOfBoundsException" tx) : W p l e R s m args below meth c H locs cells slots Q (F0 m pc ls (.int x :: .int i :: .ref a :: rest)) := by
  intro T hT X
  obtain ⟨t, st, q⟩ := k _ rfl T hT X
  refine ⟨t, ?_, q⟩
  have h1 := X.castoreOut hexec (by rw [hT]; exact hP q0 _ ha) ((hK.2 t0 _ ht).1 n (fun j => .int (f j))) (j := i) (by show (i < 0 ∨ (arrV _ _ _).slots.size ≤ _); rw [arrV_size]; exact Classical.byContradiction hout) (g := F0 m pc ls (.int x :: .int i :: .ref a :: rest)) rfl (rest := rest) rfl (by rw [hb]; exact hdg) t
  simp only [arrV_size] at h1
  exact h1 st
theorem vx_saldZ {D : va_G} {cl : List vw_C} {ws : va_W} {tys : List (ClassId × FieldType)} {a : Nat} (hexec : p.tables.exec = Jvm.exec) (hb : c.code = cc) (hK : va_K D cl tys s) (hP : va_P D cl ws H) (q0 t0 : Nat) {cA : ClassId} {n : Nat} {f : Nat → Int32} (ha : ws[q0]? = some (a, .inl (cA, n, .inl f))) (ht : tys[t0]? = some (cA, .short)) {i : Int32} (hout : ¬ vp_in i n) (hdg : decode cc pc = .ok (.saload, 1))
    (k : ∀ tx : String, tx = (toString "Index " ++ toString i ++ toString " out of bounds for length " ++ toString n : String) → vx_Note p l e R s m args below meth c H locs cells slots Q (F0 m pc ls rest) "java/lang/ArrayIndexOutOfBoundsException" tx) : W p l e R s m args below meth c H locs cells slots Q (F0 m pc ls (.int i :: .ref a :: rest)) := by
  intro T hT X
  obtain ⟨t, st, q⟩ := k _ rfl T hT X
  refine ⟨t, ?_, q⟩
  have h1 := X.saloadOut hexec (by rw [hT]; exact hP q0 _ ha) ((hK.2 t0 _ ht).1 n (fun j => .int (f j))) (j := i) (by show (i < 0 ∨ (arrV _ _ _).slots.size ≤ _); rw [arrV_size]; exact Classical.byContradiction hout) (g := F0 m pc ls (.int i :: .ref a :: rest)) rfl (rest := rest) rfl (by rw [hb]; exact hdg) t
  simp only [arrV_size] at h1
  exact h1 st
theorem vx_sastZ {D : va_G} {cl : List vw_C} {ws : va_W} {tys : List (ClassId × FieldType)} {a : Nat} (hexec : p.tables.exec = Jvm.exec) (hb : c.code = cc) (hK : va_K D cl tys s) (hP : va_P D cl ws H) (q0 t0 : Nat) {cA : ClassId} {n : Nat} {f : Nat → Int32} (ha : ws[q0]? = some (a, .inl (cA, n, .inl f))) (ht : tys[t0]? = some (cA, .short)) {i : Int32} {x : Int32} (hout : ¬ vp_in i n) (hdg : decode cc pc = .ok (.sastore, 1))
    (k : ∀ tx : String, tx = (toString "Index " ++ toString i ++ toString " out of bounds for length " ++ toString n : String) → vx_Note p l e R s m args below meth c H locs cells slots Q (F0 m pc ls rest) "java/lang/ArrayIndexOutOfBoundsException" tx) : W p l e R s m args below meth c H locs cells slots Q (F0 m pc ls (.int x :: .int i :: .ref a :: rest)) := by
  intro T hT X
  obtain ⟨t, st, q⟩ := k _ rfl T hT X
  refine ⟨t, ?_, q⟩
  have h1 := X.sastoreOut hexec (by rw [hT]; exact hP q0 _ ha) ((hK.2 t0 _ ht).1 n (fun j => .int (f j))) (j := i) (by show (i < 0 ∨ (arrV _ _ _).slots.size ≤ _); rw [arrV_size]; exact Classical.byContradiction hout) (g := F0 m pc ls (.int x :: .int i :: .ref a :: rest)) rfl (rest := rest) rfl (by rw [hb]; exact hdg) t
  simp only [arrV_size] at h1
  exact h1 st
theorem vx_laldZ {D : va_G} {cl : List vw_C} {ws : va_W} {tys : List (ClassId × FieldType)} {a : Nat} (hexec : p.tables.exec = Jvm.exec) (hb : c.code = cc) (hK : va_K D cl tys s) (hP : va_P D cl ws H) (q0 t0 : Nat) {cA : ClassId} {n : Nat} {f : Nat → Int64} (ha : ws[q0]? = some (a, .inl (cA, n, .inr (.inl f)))) (ht : tys[t0]? = some (cA, .long)) {i : Int32} (hout : ¬ vp_in i n) (hdg : decode cc pc = .ok (.laload, 1))
    (k : ∀ tx : String, tx = (toString "Index " ++ toString i ++ toString " out of bounds for length " ++ toString n : String) → vx_Note p l e R s m args below meth c H locs cells slots Q (F0 m pc ls rest) "java/lang/ArrayIndexOutOfBoundsException" tx) : W p l e R s m args below meth c H locs cells slots Q (F0 m pc ls (.int i :: .ref a :: rest)) := by
  intro T hT X
  obtain ⟨t, st, q⟩ := k _ rfl T hT X
  refine ⟨t, ?_, q⟩
  have h1 := X.laloadOut hexec (by rw [hT]; exact hP q0 _ ha) ((hK.2 t0 _ ht).1 n (fun j => .long (f j))) (j := i) (by show (i < 0 ∨ (arrV _ _ _).slots.size ≤ _); rw [arrV_size]; exact Classical.byContradiction hout) (g := F0 m pc ls (.int i :: .ref a :: rest)) rfl (rest := rest) rfl (by rw [hb]; exact hdg) t
  simp only [arrV_size] at h1
  exact h1 st
theorem vx_lastZ {D : va_G} {cl : List vw_C} {ws : va_W} {tys : List (ClassId × FieldType)} {a : Nat} (hexec : p.tables.exec = Jvm.exec) (hb : c.code = cc) (hK : va_K D cl tys s) (hP : va_P D cl ws H) (q0 t0 : Nat) {cA : ClassId} {n : Nat} {f : Nat → Int64} (ha : ws[q0]? = some (a, .inl (cA, n, .inr (.inl f)))) (ht : tys[t0]? = some (cA, .long)) {i : Int32} {x : Int64} (hout : ¬ vp_in i n) (hdg : decode cc pc = .ok (.lastore, 1))
    (k : ∀ tx : String, tx = (toString "Index " ++ toString i ++ toString " out of bounds for length " ++ toString n : String) → vx_Note p l e R s m args below meth c H locs cells slots Q (F0 m pc ls rest) "java/lang/ArrayIndexOutOfBoundsException" tx) : W p l e R s m args below meth c H locs cells slots Q (F0 m pc ls (.long x :: .int i :: .ref a :: rest)) := by
  intro T hT X
  obtain ⟨t, st, q⟩ := k _ rfl T hT X
  refine ⟨t, ?_, q⟩
  have h1 := X.lastoreOut hexec (by rw [hT]; exact hP q0 _ ha) ((hK.2 t0 _ ht).1 n (fun j => .long (f j))) (j := i) (by show (i < 0 ∨ (arrV _ _ _).slots.size ≤ _); rw [arrV_size]; exact Classical.byContradiction hout) (g := F0 m pc ls (.long x :: .int i :: .ref a :: rest)) rfl (rest := rest) rfl (by rw [hb]; exact hdg) t
  simp only [arrV_size] at h1
  exact h1 st
theorem vx_faldZ {D : va_G} {cl : List vw_C} {ws : va_W} {tys : List (ClassId × FieldType)} {a : Nat} (hexec : p.tables.exec = Jvm.exec) (hb : c.code = cc) (hK : va_K D cl tys s) (hP : va_P D cl ws H) (q0 t0 : Nat) {cA : ClassId} {n : Nat} {f : Nat → UInt32} (ha : ws[q0]? = some (a, .inl (cA, n, .inr (.inr (.inl f))))) (ht : tys[t0]? = some (cA, .float)) {i : Int32} (hout : ¬ vp_in i n) (hdg : decode cc pc = .ok (.faload, 1))
    (k : ∀ tx : String, tx = (toString "Index " ++ toString i ++ toString " out of bounds for length " ++ toString n : String) → vx_Note p l e R s m args below meth c H locs cells slots Q (F0 m pc ls rest) "java/lang/ArrayIndexOutOfBoundsException" tx) : W p l e R s m args below meth c H locs cells slots Q (F0 m pc ls (.int i :: .ref a :: rest)) := by
  intro T hT X
  obtain ⟨t, st, q⟩ := k _ rfl T hT X
  refine ⟨t, ?_, q⟩
  have h1 := X.faloadOut hexec (by rw [hT]; exact hP q0 _ ha) ((hK.2 t0 _ ht).1 n (fun j => .float (f j))) (j := i) (by show (i < 0 ∨ (arrV _ _ _).slots.size ≤ _); rw [arrV_size]; exact Classical.byContradiction hout) (g := F0 m pc ls (.int i :: .ref a :: rest)) rfl (rest := rest) rfl (by rw [hb]; exact hdg) t
  simp only [arrV_size] at h1
  exact h1 st
theorem vx_fastZ {D : va_G} {cl : List vw_C} {ws : va_W} {tys : List (ClassId × FieldType)} {a : Nat} (hexec : p.tables.exec = Jvm.exec) (hb : c.code = cc) (hK : va_K D cl tys s) (hP : va_P D cl ws H) (q0 t0 : Nat) {cA : ClassId} {n : Nat} {f : Nat → UInt32} (ha : ws[q0]? = some (a, .inl (cA, n, .inr (.inr (.inl f))))) (ht : tys[t0]? = some (cA, .float)) {i : Int32} {x : UInt32} (hout : ¬ vp_in i n) (hdg : decode cc pc = .ok (.fastore, 1))
    (k : ∀ tx : String, tx = (toString "Index " ++ toString i ++ toString " out of bounds for length " ++ toString n : String) → vx_Note p l e R s m args below meth c H locs cells slots Q (F0 m pc ls rest) "java/lang/ArrayIndexOutOfBoundsException" tx) : W p l e R s m args below meth c H locs cells slots Q (F0 m pc ls (.float x :: .int i :: .ref a :: rest)) := by
  intro T hT X
  obtain ⟨t, st, q⟩ := k _ rfl T hT X
  refine ⟨t, ?_, q⟩
  have h1 := X.fastoreOut hexec (by rw [hT]; exact hP q0 _ ha) ((hK.2 t0 _ ht).1 n (fun j => .float (f j))) (j := i) (by show (i < 0 ∨ (arrV _ _ _).slots.size ≤ _); rw [arrV_size]; exact Classical.byContradiction hout) (g := F0 m pc ls (.float x :: .int i :: .ref a :: rest)) rfl (rest := rest) rfl (by rw [hb]; exact hdg) t
  simp only [arrV_size] at h1
  exact h1 st
theorem vx_daldZ {D : va_G} {cl : List vw_C} {ws : va_W} {tys : List (ClassId × FieldType)} {a : Nat} (hexec : p.tables.exec = Jvm.exec) (hb : c.code = cc) (hK : va_K D cl tys s) (hP : va_P D cl ws H) (q0 t0 : Nat) {cA : ClassId} {n : Nat} {f : Nat → UInt64} (ha : ws[q0]? = some (a, .inl (cA, n, .inr (.inr (.inr (.inl f)))))) (ht : tys[t0]? = some (cA, .double)) {i : Int32} (hout : ¬ vp_in i n) (hdg : decode cc pc = .ok (.daload, 1))
    (k : ∀ tx : String, tx = (toString "Index " ++ toString i ++ toString " out of bounds for length " ++ toString n : String) → vx_Note p l e R s m args below meth c H locs cells slots Q (F0 m pc ls rest) "java/lang/ArrayIndexOutOfBoundsException" tx) : W p l e R s m args below meth c H locs cells slots Q (F0 m pc ls (.int i :: .ref a :: rest)) := by
  intro T hT X
  obtain ⟨t, st, q⟩ := k _ rfl T hT X
  refine ⟨t, ?_, q⟩
  have h1 := X.daloadOut hexec (by rw [hT]; exact hP q0 _ ha) ((hK.2 t0 _ ht).1 n (fun j => .double (f j))) (j := i) (by show (i < 0 ∨ (arrV _ _ _).slots.size ≤ _); rw [arrV_size]; exact Classical.byContradiction hout) (g := F0 m pc ls (.int i :: .ref a :: rest)) rfl (rest := rest) rfl (by rw [hb]; exact hdg) t
  simp only [arrV_size] at h1
  exact h1 st
theorem vx_dastZ {D : va_G} {cl : List vw_C} {ws : va_W} {tys : List (ClassId × FieldType)} {a : Nat} (hexec : p.tables.exec = Jvm.exec) (hb : c.code = cc) (hK : va_K D cl tys s) (hP : va_P D cl ws H) (q0 t0 : Nat) {cA : ClassId} {n : Nat} {f : Nat → UInt64} (ha : ws[q0]? = some (a, .inl (cA, n, .inr (.inr (.inr (.inl f)))))) (ht : tys[t0]? = some (cA, .double)) {i : Int32} {x : UInt64} (hout : ¬ vp_in i n) (hdg : decode cc pc = .ok (.dastore, 1))
    (k : ∀ tx : String, tx = (toString "Index " ++ toString i ++ toString " out of bounds for length " ++ toString n : String) → vx_Note p l e R s m args below meth c H locs cells slots Q (F0 m pc ls rest) "java/lang/ArrayIndexOutOfBoundsException" tx) : W p l e R s m args below meth c H locs cells slots Q (F0 m pc ls (.double x :: .int i :: .ref a :: rest)) := by
  intro T hT X
  obtain ⟨t, st, q⟩ := k _ rfl T hT X
  refine ⟨t, ?_, q⟩
  have h1 := X.dastoreOut hexec (by rw [hT]; exact hP q0 _ ha) ((hK.2 t0 _ ht).1 n (fun j => .double (f j))) (j := i) (by show (i < 0 ∨ (arrV _ _ _).slots.size ≤ _); rw [arrV_size]; exact Classical.byContradiction hout) (g := F0 m pc ls (.double x :: .int i :: .ref a :: rest)) rfl (rest := rest) rfl (by rw [hb]; exact hdg) t
  simp only [arrV_size] at h1
  exact h1 st
theorem vx_arraylengthN (hexec : p.tables.exec = Jvm.exec) (hb : c.code = cc) (hdg : decode cc pc = .ok (.arraylength, 1)) (k : vx_NoteN p l e R s m args below meth c H locs cells slots Q (F0 m pc ls rest)) : W p l e R s m args below meth c H locs cells slots Q (F0 m pc ls (.null :: rest)) := by
  intro T hT X
  obtain ⟨t, st, q⟩ := k T hT X
  exact ⟨t, X.arraylengthNull hexec (g := F0 m pc ls (.null :: rest)) rfl (rest := rest) rfl (by rw [hb]; exact hdg) t st, q⟩
theorem vx_ialoadN (hexec : p.tables.exec = Jvm.exec) (hb : c.code = cc) {i : Int32} (hdg : decode cc pc = .ok (.iaload, 1)) (k : vx_NoteN p l e R s m args below meth c H locs cells slots Q (F0 m pc ls rest)) : W p l e R s m args below meth c H locs cells slots Q (F0 m pc ls (.int i :: .null :: rest)) := by
  intro T hT X
  obtain ⟨t, st, q⟩ := k T hT X
  exact ⟨t, X.ialoadNull hexec (g := F0 m pc ls (.int i :: .null :: rest)) rfl (rest := rest) rfl (by rw [hb]; exact hdg) t st, q⟩
theorem vx_laloadN (hexec : p.tables.exec = Jvm.exec) (hb : c.code = cc) {i : Int32} (hdg : decode cc pc = .ok (.laload, 1)) (k : vx_NoteN p l e R s m args below meth c H locs cells slots Q (F0 m pc ls rest)) : W p l e R s m args below meth c H locs cells slots Q (F0 m pc ls (.int i :: .null :: rest)) := by
  intro T hT X
  obtain ⟨t, st, q⟩ := k T hT X
  exact ⟨t, X.laloadNull hexec (g := F0 m pc ls (.int i :: .null :: rest)) rfl (rest := rest) rfl (by rw [hb]; exact hdg) t st, q⟩
theorem vx_faloadN (hexec : p.tables.exec = Jvm.exec) (hb : c.code = cc) {i : Int32} (hdg : decode cc pc = .ok (.faload, 1)) (k : vx_NoteN p l e R s m args below meth c H locs cells slots Q (F0 m pc ls rest)) : W p l e R s m args below meth c H locs cells slots Q (F0 m pc ls (.int i :: .null :: rest)) := by
  intro T hT X
  obtain ⟨t, st, q⟩ := k T hT X
  exact ⟨t, X.faloadNull hexec (g := F0 m pc ls (.int i :: .null :: rest)) rfl (rest := rest) rfl (by rw [hb]; exact hdg) t st, q⟩
theorem vx_daloadN (hexec : p.tables.exec = Jvm.exec) (hb : c.code = cc) {i : Int32} (hdg : decode cc pc = .ok (.daload, 1)) (k : vx_NoteN p l e R s m args below meth c H locs cells slots Q (F0 m pc ls rest)) : W p l e R s m args below meth c H locs cells slots Q (F0 m pc ls (.int i :: .null :: rest)) := by
  intro T hT X
  obtain ⟨t, st, q⟩ := k T hT X
  exact ⟨t, X.daloadNull hexec (g := F0 m pc ls (.int i :: .null :: rest)) rfl (rest := rest) rfl (by rw [hb]; exact hdg) t st, q⟩
theorem vx_aaloadN (hexec : p.tables.exec = Jvm.exec) (hb : c.code = cc) {i : Int32} (hdg : decode cc pc = .ok (.aaload, 1)) (k : vx_NoteN p l e R s m args below meth c H locs cells slots Q (F0 m pc ls rest)) : W p l e R s m args below meth c H locs cells slots Q (F0 m pc ls (.int i :: .null :: rest)) := by
  intro T hT X
  obtain ⟨t, st, q⟩ := k T hT X
  exact ⟨t, X.aaloadNull hexec (g := F0 m pc ls (.int i :: .null :: rest)) rfl (rest := rest) rfl (by rw [hb]; exact hdg) t st, q⟩
theorem vx_baloadN (hexec : p.tables.exec = Jvm.exec) (hb : c.code = cc) {i : Int32} (hdg : decode cc pc = .ok (.baload, 1)) (k : vx_NoteN p l e R s m args below meth c H locs cells slots Q (F0 m pc ls rest)) : W p l e R s m args below meth c H locs cells slots Q (F0 m pc ls (.int i :: .null :: rest)) := by
  intro T hT X
  obtain ⟨t, st, q⟩ := k T hT X
  exact ⟨t, X.baloadNull hexec (g := F0 m pc ls (.int i :: .null :: rest)) rfl (rest := rest) rfl (by rw [hb]; exact hdg) t st, q⟩
theorem vx_caloadN (hexec : p.tables.exec = Jvm.exec) (hb : c.code = cc) {i : Int32} (hdg : decode cc pc = .ok (.caload, 1)) (k : vx_NoteN p l e R s m args below meth c H locs cells slots Q (F0 m pc ls rest)) : W p l e R s m args below meth c H locs cells slots Q (F0 m pc ls (.int i :: .null :: rest)) := by
  intro T hT X
  obtain ⟨t, st, q⟩ := k T hT X
  exact ⟨t, X.caloadNull hexec (g := F0 m pc ls (.int i :: .null :: rest)) rfl (rest := rest) rfl (by rw [hb]; exact hdg) t st, q⟩
theorem vx_saloadN (hexec : p.tables.exec = Jvm.exec) (hb : c.code = cc) {i : Int32} (hdg : decode cc pc = .ok (.saload, 1)) (k : vx_NoteN p l e R s m args below meth c H locs cells slots Q (F0 m pc ls rest)) : W p l e R s m args below meth c H locs cells slots Q (F0 m pc ls (.int i :: .null :: rest)) := by
  intro T hT X
  obtain ⟨t, st, q⟩ := k T hT X
  exact ⟨t, X.saloadNull hexec (g := F0 m pc ls (.int i :: .null :: rest)) rfl (rest := rest) rfl (by rw [hb]; exact hdg) t st, q⟩
theorem vx_iastoreN (hexec : p.tables.exec = Jvm.exec) (hb : c.code = cc) {x : Int32} {i : Int32} (hdg : decode cc pc = .ok (.iastore, 1)) (k : vx_NoteN p l e R s m args below meth c H locs cells slots Q (F0 m pc ls rest)) : W p l e R s m args below meth c H locs cells slots Q (F0 m pc ls (.int x :: .int i :: .null :: rest)) := by
  intro T hT X
  obtain ⟨t, st, q⟩ := k T hT X
  exact ⟨t, X.iastoreNull hexec (g := F0 m pc ls (.int x :: .int i :: .null :: rest)) rfl (rest := rest) rfl (by rw [hb]; exact hdg) t st, q⟩
theorem vx_lastoreN (hexec : p.tables.exec = Jvm.exec) (hb : c.code = cc) {x : Int64} {i : Int32} (hdg : decode cc pc = .ok (.lastore, 1)) (k : vx_NoteN p l e R s m args below meth c H locs cells slots Q (F0 m pc ls rest)) : W p l e R s m args below meth c H locs cells slots Q (F0 m pc ls (.long x :: .int i :: .null :: rest)) := by
  intro T hT X
  obtain ⟨t, st, q⟩ := k T hT X
  exact ⟨t, X.lastoreNull hexec (g := F0 m pc ls (.long x :: .int i :: .null :: rest)) rfl (rest := rest) rfl (by rw [hb]; exact hdg) t st, q⟩
theorem vx_fastoreN (hexec : p.tables.exec = Jvm.exec) (hb : c.code = cc) {x : UInt32} {i : Int32} (hdg : decode cc pc = .ok (.fastore, 1)) (k : vx_NoteN p l e R s m args below meth c H locs cells slots Q (F0 m pc ls rest)) : W p l e R s m args below meth c H locs cells slots Q (F0 m pc ls (.float x :: .int i :: .null :: rest)) := by
  intro T hT X
  obtain ⟨t, st, q⟩ := k T hT X
  exact ⟨t, X.fastoreNull hexec (g := F0 m pc ls (.float x :: .int i :: .null :: rest)) rfl (rest := rest) rfl (by rw [hb]; exact hdg) t st, q⟩
theorem vx_dastoreN (hexec : p.tables.exec = Jvm.exec) (hb : c.code = cc) {x : UInt64} {i : Int32} (hdg : decode cc pc = .ok (.dastore, 1)) (k : vx_NoteN p l e R s m args below meth c H locs cells slots Q (F0 m pc ls rest)) : W p l e R s m args below meth c H locs cells slots Q (F0 m pc ls (.double x :: .int i :: .null :: rest)) := by
  intro T hT X
  obtain ⟨t, st, q⟩ := k T hT X
  exact ⟨t, X.dastoreNull hexec (g := F0 m pc ls (.double x :: .int i :: .null :: rest)) rfl (rest := rest) rfl (by rw [hb]; exact hdg) t st, q⟩
theorem vx_bastoreN (hexec : p.tables.exec = Jvm.exec) (hb : c.code = cc) {x : Int32} {i : Int32} (hdg : decode cc pc = .ok (.bastore, 1)) (k : vx_NoteN p l e R s m args below meth c H locs cells slots Q (F0 m pc ls rest)) : W p l e R s m args below meth c H locs cells slots Q (F0 m pc ls (.int x :: .int i :: .null :: rest)) := by
  intro T hT X
  obtain ⟨t, st, q⟩ := k T hT X
  exact ⟨t, X.bastoreNull hexec (g := F0 m pc ls (.int x :: .int i :: .null :: rest)) rfl (rest := rest) rfl (by rw [hb]; exact hdg) t st, q⟩
theorem vx_castoreN (hexec : p.tables.exec = Jvm.exec) (hb : c.code = cc) {x : Int32} {i : Int32} (hdg : decode cc pc = .ok (.castore, 1)) (k : vx_NoteN p l e R s m args below meth c H locs cells slots Q (F0 m pc ls rest)) : W p l e R s m args below meth c H locs cells slots Q (F0 m pc ls (.int x :: .int i :: .null :: rest)) := by
  intro T hT X
  obtain ⟨t, st, q⟩ := k T hT X
  exact ⟨t, X.castoreNull hexec (g := F0 m pc ls (.int x :: .int i :: .null :: rest)) rfl (rest := rest) rfl (by rw [hb]; exact hdg) t st, q⟩
theorem vx_sastoreN (hexec : p.tables.exec = Jvm.exec) (hb : c.code = cc) {x : Int32} {i : Int32} (hdg : decode cc pc = .ok (.sastore, 1)) (k : vx_NoteN p l e R s m args below meth c H locs cells slots Q (F0 m pc ls rest)) : W p l e R s m args below meth c H locs cells slots Q (F0 m pc ls (.int x :: .int i :: .null :: rest)) := by
  intro T hT X
  obtain ⟨t, st, q⟩ := k T hT X
  exact ⟨t, X.sastoreNull hexec (g := F0 m pc ls (.int x :: .int i :: .null :: rest)) rfl (rest := rest) rfl (by rw [hb]; exact hdg) t st, q⟩
theorem vx_invokeN {own C : String} {index maxL : Nat} {y : MethodName} {bytes : ByteArray} {ret : Option FieldType} (hexec : p.tables.exec = Jvm.exec) (hb : c.code = cc) (hown : s.vm.findClass own = some m.cls) (hlink : (Cond.methodLink own index y).before args s = true) (hinst : (Cond.instanceMethod y).before args s = true) (hcode : (Cond.code y bytes maxL ret).before args s = true) (hsel : (Cond.selects C y y).before args s = true)
    (hx : y.cls ≠ "java/lang/invoke/MethodHandle" ∧ y.cls ≠ "java/lang/invoke/VarHandle") {As : List Value} (hlen : (parseMethodDescriptor y.desc).map (fun d => d.parameters.length) = some As.length) (hdg : decode cc pc = .ok (.invokevirtual index, 3))
    (k : vx_NoteN p l e R s m args below meth c H locs cells slots Q (F0 m pc ls rest)) {st0 : List Value} (hst : st0 = As.reverse ++ .null :: rest) : W p l e R s m args below meth c H locs cells slots Q (F0 m pc ls st0) := by
  intro T hT X
  obtain ⟨r0, r, hn, hrm, hstR, hsigR⟩ := va_Decl.of hinst hcode
  obtain ⟨c2, r2, m2, q1, q2, q3, q4, kP, hkP, hkPi⟩ := Cond.selects_spec hsel
  cases hn.symm.trans q3
  have hl9 : As.length = r.sig.parameters.length := by
    rw [hsigR] at hlen
    exact (Option.some.inj hlen).symm
  obtain ⟨vm', X1, st1⟩ := X.invokevirtualNull hexec hown hlink hn hrm hstR hkP hkPi hx (g := F0 m pc ls st0) rfl (argsL := As) (rest := rest) hl9 hst (by rw [hb]; exact hdg)
  obtain ⟨t, st, q⟩ := k (T.setVm vm') hT X1
  exact ⟨t, st1 t st, q⟩
theorem vx_newarrayZ {atype : ArrayType} (hexec : p.tables.exec = Jvm.exec) (hb : c.code = cc) {n : Int32} (h0 : n < 0) (hdg : decode cc pc = .ok (.newarray atype, 2)) (k : ∀ tx : String, tx = toString n → vx_Note p l e R s m args below meth c H locs cells slots Q (F0 m pc ls rest) "java/lang/NegativeArraySizeException" tx) : W p l e R s m args below meth c H locs cells slots Q (F0 m pc ls (.int n :: rest)) := by
  intro T hT X
  obtain ⟨t, st, q⟩ := k _ rfl T hT X
  exact ⟨t, X.newarrayNegative hexec (g := F0 m pc ls (.int n :: rest)) rfl h0 (rest := rest) rfl (by rw [hb]; exact hdg) t st, q⟩
end
end VXM
/-! ===== END ===== -/
/-! ===== BEGIN an exception as an object: made, kept, thrown later (no traces kept) ===== -/
section VXK
variable {p : Program} {l : Launch} {e : Env} {R : Room} {s : State} {m₀ : MethodId} {args : Array Value} {below : List Frame} {meth : Method} {c : Code} {W : State} {locs : List Loc} {cells slots : Nat}
set_option maxHeartbeats 1000000 in
theorem vx_ctorMadeS (X : Stand p l e R s m₀ args below meth c W locs cells slots) (hexec : p.tables.exec = Jvm.exec) (htr : e.platform.stackTraces = false) {own cls : String} {names : List String} {ic : Nat}
    (hown : s.vm.findClass own = some m₀.cls) (hcls : Bundle.fit cls = true) (hnames : ∀ n ∈ names, Bundle.fit n = true)
    (h : ∀ a ∈ Bundle.ownAtoms own ic cls names, a.before args s = true)
    (hlocs : ∀ x ∈ locs, ∀ cell, s.heap[x.base]? = some cell → cell.vm.isStatics = false)
    {a : Addr} {cX : ClassId} {kX : Class} (hfoundX : s.vm.findClass cls = some cX) (hkX : s.vm.classes[cX]? = some kX) (hcell : W.heap[a]? = some (freshCell cX kX)) (hnew : s.heap.size ≤ a)
    {msg : Value} (hmsg : msg.isRef = true)
    {g : JFrame} (hg : g.method = m₀) (hsize : g.locals.size = c.maxLocals) {rest : List Value} (hstack : g.stack = msg :: .ref a :: .ref a :: rest)
    (hd6 : decode c.code g.pc = .ok (.invokespecial ic, 3))
    (hRframes : names.length + 3 < R.frames) (hRlocals : 2 * g.monitorRoom + ((Value.ref a :: rest).map fun v => v.category).sum + (13 * (names.length + 1) + 42) ≤ R.locals) :
    ∃ (V : State) (ce : Cell) (L : List Loc), Stand p l e R s m₀ args below meth c (V.setCell a ce) (locs ++ L) cells slots ∧ (∀ y ∈ L, y.base = a) ∧ a < V.heap.size ∧ ce.cls = cX ∧ ce.vm = .none ∧
      ∀ target, Steps p.tables e below ((V.setCell a ce).setTop { g with stack := .ref a :: rest, pc := g.pc + 3 }) target → Steps p.tables e below (W.setTop g) target := by
  have howns : e.platform.frameOwnsMonitors = true := by rw [X.admits.platform]
  have hfin : e.platform.finalization = false := by rw [X.admits.platform]
  have hpl : e.platform.magicAccessors = ({} : Platform).magicAccessors := by rw [X.admits.platform]
  have a' : ∀ x, x ∈ Bundle.ownAtoms own ic cls names → x.holds args s none s [] = true := fun x hx => h x hx
  obtain ⟨T, Z0, L, -, Y⟩ := ThrowableC.of_atoms (args := args) howns hfin hpl (fun x hx => h x (by simp [Bundle.ownAtoms, hx]))
  obtain ⟨Z, M, LZ, LM, hnZ⟩ := Init0T.ofS_atoms (args := args) hpl L Y (fun x hx => h x (by simp [Bundle.ownAtoms, hx]))
  obtain ⟨P1, Ps, hlen, L1, hL, hP1m, hlink1, hlink⟩ := Bundle.chainS (args := args) hpl hnZ names cls hcls hnames (fun x hx => h x (by simp [Bundle.ownAtoms, hx]))
  have hfound : s.vm.findClass cls = some P1.m.cls := findClass_of_methodNamed hP1m
  cases Option.some.inj (hfoundX.symm.trans hfound)
  obtain ⟨c1, kX', hc1, hk, hord, -, -, hn6⟩ := Cond.instantiable_spec (a' (.instantiable cls 6) (by simp [Bundle.ownAtoms]))
  cases Option.some.inj (hc1.symm.trans hfound)
  cases Option.some.inj (hkX.symm.trans hk)
  have hsel0 : selectMethod e.platform s.vm P1.m.cls T.fill0 = .method T.fill0 := by
    obtain ⟨c2, r2, m2, q1, q2, q3, q4, -⟩ := Cond.selects_spec (a' (.selects cls Bundle.tFill0 Bundle.tFill0) (by simp [Bundle.ownAtoms]))
    cases Option.some.inj (q1.symm.trans hfound)
    cases Option.some.inj (q2.symm.trans (State.methodFound?_of_named Y.fill0 (by decide)))
    cases Option.some.inj (q3.symm.trans Y.fill0)
    rw [Launch.admits_selectMethod X.admits]; exact q4
  have hselF : selectMethod e.platform s.vm P1.m.cls T.fill = .method T.fill := by
    obtain ⟨c2, r2, m2, q1, q2, q3, q4, -⟩ := Cond.selects_spec (a' (.selects cls Bundle.tFill Bundle.tFill) (by simp [Bundle.ownAtoms]))
    cases Option.some.inj (q1.symm.trans hfound)
    cases Option.some.inj (q2.symm.trans (State.methodFound?_of_named Y.fill (by decide)))
    cases Option.some.inj (q3.symm.trans Y.fill)
    rw [Launch.admits_selectMethod X.admits]; exact q4
  obtain ⟨cellS0, hcS0, hiss⟩ := Y.statics
  obtain ⟨u0, hu0⟩ := Cond.staticRefV Y.unassigned L.unassignedStatic L.statics hcS0 hiss (a' (.isRef (.static Bundle.tN "UNASSIGNED_STACK" Bundle.steD)) (by simp [Bundle.ownAtoms]))
  obtain ⟨sen, hsen⟩ := Cond.staticRefV Y.sentinel L.sentinelStatic L.statics hcS0 hiss (a' (.isRef (.static Bundle.tN "SUPPRESSED_SENTINEL" Bundle.listD)) (by simp [Bundle.ownAtoms]))
  obtain ⟨ci198, i198, fB, hk198, hg198, ha198, hsB, -, hnB, htB, hffB⟩ := Cond.ownField (t := .object "java/lang/Object") Y.found L.cls (by decide +kernel) (a' (.fieldLink Bundle.tN 198 Bundle.tN "backtrace" "Ljava/lang/Object;") (by simp [Bundle.ownAtoms])) (a' (.lays Bundle.tN Bundle.tN "backtrace" "Ljava/lang/Object;") (by simp [Bundle.ownAtoms])) e.platform hpl
  obtain ⟨cellS, hcS', heS, -, hkeep⟩ := X.same.2.2.2.2.2 T.aS cellS0 hcS0
  have hcellS : W.heap[T.aS]? = some cellS := hcS'
  have hout' : ∀ i, (⟨T.aS, i⟩ : Loc) ∉ locs := fun i hmem => by
    have := hlocs _ hmem cellS0 hcS0
    rw [hiss] at this; cases this
  have hknownS : cellS.vm ≠ .unknown := by
    rw [heS]; intro hu
    rw [show cellS0.vm = .unknown from hu] at hiss
    cases hiss
  have hneS : T.aS ≠ a := Nat.ne_of_lt (Nat.lt_of_lt_of_le (Array.getElem?_eq_some_iff.mp hcS0).1 hnew)
  obtain ⟨iM, hffM⟩ := Y.msg
  obtain ⟨tyC, dC, hdC, hdnC⟩ := Cond.laysAt hfound hk Y.cause (a' (.lays cls Bundle.tN "cause" "Ljava/lang/Throwable;") (by simp [Bundle.ownAtoms]))
  obtain ⟨tyS, dS, hdS, hdnS⟩ := Cond.laysAt hfound hk Y.stack (a' (.lays cls Bundle.tN "stackTrace" Bundle.steD) (by simp [Bundle.ownAtoms]))
  obtain ⟨tyP, dP, hdP, hdnP⟩ := Cond.laysAt hfound hk Y.supp (a' (.lays cls Bundle.tN "suppressedExceptions" Bundle.listD) (by simp [Bundle.ownAtoms]))
  obtain ⟨tyM, dM, hdM, hdnM⟩ := Cond.laysAt hfound hk hffM (a' (.lays cls Bundle.tN "detailMessage" "Ljava/lang/String;") (by simp [Bundle.ownAtoms]))
  obtain ⟨tyB, dB, hdB, hdnB⟩ := Cond.laysAt hfound hk hffB (a' (.lays cls Bundle.tN "backtrace" "Ljava/lang/Object;") (by simp [Bundle.ownAtoms]))
  have bC := Cond.laysApart hdB hdC hdnB hdnC (by rw [hnB, Y.causeName]; decide)
  have bS := Cond.laysApart hdB hdS hdnB hdnS (by rw [hnB, Y.stackName]; decide)
  have bP := Cond.laysApart hdB hdP hdnB hdnP (by rw [hnB, Y.suppName]; decide)
  have hskip : SkipFacts T e.platform s (fun u => u) u0 ((preparedCellV T.toThrowableT (freshCell P1.m.cls kX) a u0 sen).withEntry W.cur) :=
    ⟨{ ci198 := ci198, i198 := i198, fBack := fB }, ⟨hk198, hg198, ha198, hsB⟩, by
      have := fresh_default (c := P1.m.cls) tyB
      rw [htB] at this
      simpa [preparedCellV, Cell.setSlot, Cell.withEntry, Array.getElem?_setIfInBounds, bC, bS, bP, bC.symm, bS.symm, bP.symm, defaultValue] using this, fun _ _ => rfl⟩
  obtain ⟨tm, methC, cdC, kC, vm₁, hnC, -, -, -, -, -, -, -, hW₁, st1⟩ := Steps.initColdS (tb := p.tables) (e := e) (below := below) (s := s) (U := W) X.here hexec X.warmed hpl hown (t := Bundle.initS cls) rfl rfl (Bundle.fit_spec hcls).2
    (a' (.methodLink own ic (Bundle.initS cls)) (by simp [Bundle.ownAtoms])) (h (.instanceMethod (Bundle.initS cls)) (by cases names <;> simp [Bundle.ownAtoms, Bundle.chainSAtoms, Bundle.passSAtoms])) (bytes := Bundle.six) (maxL := 2) (h (.code (Bundle.initS cls) Bundle.six 2 none) (by cases names <;> simp [Bundle.ownAtoms, Bundle.chainSAtoms, Bundle.passSAtoms]))
    (f := g) hg (a := a) (msg := msg) (rest := .ref a :: rest) hstack hd6
  cases Option.some.inj (hnC.symm.trans hP1m)
  have X₁ := X.noted hW₁
  obtain ⟨vm₂, X₂, st2⟩ := X₁.ctorMessageOffV hexec (g := { g with stack := .ref a :: rest }) hg hsize T L Z LZ M LM (P1 :: Ps)
    (fun P hP => by rcases List.mem_cons.mp hP with rfl | hP; exact L1; exact hL P hP) ⟨hlink1, hlink⟩ (u0 := u0) (sen := sen) (self := a) hmsg (cell := freshCell P1.m.cls kX) (cellS := cellS)
    hcell (fun _ => by simp) (by simp) rfl rfl hsel0 hselF hcellS hneS hknownS (by rw [hkeep _ (hout' _)]; exact hu0) (by rw [hkeep _ (hout' _)]; exact hsen)
    (Takes.of_laid hk hord tyC (by rw [Y.causeType]; rfl)) (Takes.of_laid hk hord tyS (by rw [Y.stackType]; exact fits_refV_array _ u0)) (Takes.of_laid hk hord tyP (by rw [Y.suppType]; exact fits_refV_object _ sen))
    (Takes.of_laid hk hord tyM (by rw [Y.msgType]; exact fits_refV_object _ ⟨msg, hmsg⟩)) Y.objLocals hskip htr [] hd6
    (by simp only [List.length_cons, hlen]; omega) (by simp only [List.length_cons, hlen]; exact hRlocals)
  have hlt : a < ((W.setVm vm₁).setVm vm₂).heap.size := (Array.getElem?_eq_some_iff.mp hcell).1
  refine ⟨(W.setVm vm₁).setVm vm₂, _, _, X₂, fun y hy => ?_, hlt, rfl, rfl, fun target hwalk => st1 _ (fun acts => ?_)⟩
  · simp only [List.mem_cons, List.not_mem_nil, or_false] at hy
    rcases hy with rfl | rfl | rfl | rfl | rfl <;> rfl
  · rw [doInvoke_state]
    exact st2 _ hwalk
set_option maxHeartbeats 1000000 in
theorem vx_ctorMade0 (X : Stand p l e R s m₀ args below meth c W locs cells slots) (hexec : p.tables.exec = Jvm.exec) (htr : e.platform.stackTraces = false) {own cls : String} {names : List String} {ic : Nat}
    (hown : s.vm.findClass own = some m₀.cls) (hcls : Bundle.fit cls = true) (hnames : ∀ n ∈ names, Bundle.fit n = true)
    (h : ∀ a ∈ Bundle.ownAtoms0 own ic cls names, a.before args s = true)
    (hlocs : ∀ x ∈ locs, ∀ cell, s.heap[x.base]? = some cell → cell.vm.isStatics = false)
    {a : Addr} {cX : ClassId} {kX : Class} (hfoundX : s.vm.findClass cls = some cX) (hkX : s.vm.classes[cX]? = some kX) (hcell : W.heap[a]? = some (freshCell cX kX)) (hnew : s.heap.size ≤ a)
    {g : JFrame} (hg : g.method = m₀) (hsize : g.locals.size = c.maxLocals) {rest : List Value} (hstack : g.stack = .ref a :: .ref a :: rest)
    (hd6 : decode c.code g.pc = .ok (.invokespecial ic, 3))
    (hRframes : names.length + 3 < R.frames) (hRlocals : 2 * g.monitorRoom + ((Value.ref a :: rest).map fun v => v.category).sum + (13 * (names.length + 1) + 41) ≤ R.locals) :
    ∃ (V : State) (ce : Cell) (L : List Loc), Stand p l e R s m₀ args below meth c (V.setCell a ce) (locs ++ L) cells slots ∧ (∀ y ∈ L, y.base = a) ∧ a < V.heap.size ∧ ce.cls = cX ∧ ce.vm = .none ∧
      ∀ target, Steps p.tables e below ((V.setCell a ce).setTop { g with stack := .ref a :: rest, pc := g.pc + 3 }) target → Steps p.tables e below (W.setTop g) target := by
  have howns : e.platform.frameOwnsMonitors = true := by rw [X.admits.platform]
  have hfin : e.platform.finalization = false := by rw [X.admits.platform]
  have hpl : e.platform.magicAccessors = ({} : Platform).magicAccessors := by rw [X.admits.platform]
  have a' : ∀ x, x ∈ Bundle.ownAtoms0 own ic cls names → x.holds args s none s [] = true := fun x hx => h x hx
  obtain ⟨T, Z, L, LZ, Y⟩ := ThrowableC.of_atoms (args := args) howns hfin hpl (fun x hx => h x (by simp [Bundle.ownAtoms0, hx]))
  obtain ⟨P1, Ps, hlen, L1, hL, hP1m, hlink1, hlink⟩ := Bundle.chain0 (args := args) hpl Y.init0 names cls hcls hnames (fun x hx => h x (by simp [Bundle.ownAtoms0, hx]))
  have hfound : s.vm.findClass cls = some P1.m.cls := findClass_of_methodNamed hP1m
  cases Option.some.inj (hfoundX.symm.trans hfound)
  obtain ⟨c1, kX', hc1, hk, hord, -, -, hn6⟩ := Cond.instantiable_spec (a' (.instantiable cls 6) (by simp [Bundle.ownAtoms0]))
  cases Option.some.inj (hc1.symm.trans hfound)
  cases Option.some.inj (hkX.symm.trans hk)
  have hsel0 : selectMethod e.platform s.vm P1.m.cls T.fill0 = .method T.fill0 := by
    obtain ⟨c2, r2, m2, q1, q2, q3, q4, -⟩ := Cond.selects_spec (a' (.selects cls Bundle.tFill0 Bundle.tFill0) (by simp [Bundle.ownAtoms0]))
    cases Option.some.inj (q1.symm.trans hfound)
    cases Option.some.inj (q2.symm.trans (State.methodFound?_of_named Y.fill0 (by decide)))
    cases Option.some.inj (q3.symm.trans Y.fill0)
    rw [Launch.admits_selectMethod X.admits]; exact q4
  have hselF : selectMethod e.platform s.vm P1.m.cls T.fill = .method T.fill := by
    obtain ⟨c2, r2, m2, q1, q2, q3, q4, -⟩ := Cond.selects_spec (a' (.selects cls Bundle.tFill Bundle.tFill) (by simp [Bundle.ownAtoms0]))
    cases Option.some.inj (q1.symm.trans hfound)
    cases Option.some.inj (q2.symm.trans (State.methodFound?_of_named Y.fill (by decide)))
    cases Option.some.inj (q3.symm.trans Y.fill)
    rw [Launch.admits_selectMethod X.admits]; exact q4
  obtain ⟨cellS0, hcS0, hiss⟩ := Y.statics
  obtain ⟨u0, hu0⟩ := Cond.staticRefV Y.unassigned L.unassignedStatic L.statics hcS0 hiss (a' (.isRef (.static Bundle.tN "UNASSIGNED_STACK" Bundle.steD)) (by simp [Bundle.ownAtoms0]))
  obtain ⟨sen, hsen⟩ := Cond.staticRefV Y.sentinel L.sentinelStatic L.statics hcS0 hiss (a' (.isRef (.static Bundle.tN "SUPPRESSED_SENTINEL" Bundle.listD)) (by simp [Bundle.ownAtoms0]))
  obtain ⟨ci198, i198, fB, hk198, hg198, ha198, hsB, -, hnB, htB, hffB⟩ := Cond.ownField (t := .object "java/lang/Object") Y.found L.cls (by decide +kernel) (a' (.fieldLink Bundle.tN 198 Bundle.tN "backtrace" "Ljava/lang/Object;") (by simp [Bundle.ownAtoms0])) (a' (.lays Bundle.tN Bundle.tN "backtrace" "Ljava/lang/Object;") (by simp [Bundle.ownAtoms0])) e.platform hpl
  obtain ⟨cellS, hcS', heS, -, hkeep⟩ := X.same.2.2.2.2.2 T.aS cellS0 hcS0
  have hcellS : W.heap[T.aS]? = some cellS := hcS'
  have hout' : ∀ i, (⟨T.aS, i⟩ : Loc) ∉ locs := fun i hmem => by
    have := hlocs _ hmem cellS0 hcS0
    rw [hiss] at this; cases this
  have hknownS : cellS.vm ≠ .unknown := by
    rw [heS]; intro hu
    rw [show cellS0.vm = .unknown from hu] at hiss
    cases hiss
  have hneS : T.aS ≠ a := Nat.ne_of_lt (Nat.lt_of_lt_of_le (Array.getElem?_eq_some_iff.mp hcS0).1 hnew)
  obtain ⟨iM, hffM⟩ := Y.msg
  obtain ⟨tyC, dC, hdC, hdnC⟩ := Cond.laysAt hfound hk Y.cause (a' (.lays cls Bundle.tN "cause" "Ljava/lang/Throwable;") (by simp [Bundle.ownAtoms0]))
  obtain ⟨tyS, dS, hdS, hdnS⟩ := Cond.laysAt hfound hk Y.stack (a' (.lays cls Bundle.tN "stackTrace" Bundle.steD) (by simp [Bundle.ownAtoms0]))
  obtain ⟨tyP, dP, hdP, hdnP⟩ := Cond.laysAt hfound hk Y.supp (a' (.lays cls Bundle.tN "suppressedExceptions" Bundle.listD) (by simp [Bundle.ownAtoms0]))
  obtain ⟨tyM, dM, hdM, hdnM⟩ := Cond.laysAt hfound hk hffM (a' (.lays cls Bundle.tN "detailMessage" "Ljava/lang/String;") (by simp [Bundle.ownAtoms0]))
  obtain ⟨tyB, dB, hdB, hdnB⟩ := Cond.laysAt hfound hk hffB (a' (.lays cls Bundle.tN "backtrace" "Ljava/lang/Object;") (by simp [Bundle.ownAtoms0]))
  have bC := Cond.laysApart hdB hdC hdnB hdnC (by rw [hnB, Y.causeName]; decide)
  have bS := Cond.laysApart hdB hdS hdnB hdnS (by rw [hnB, Y.stackName]; decide)
  have bP := Cond.laysApart hdB hdP hdnB hdnP (by rw [hnB, Y.suppName]; decide)
  have hskip : SkipFacts T e.platform s (fun u => u) u0 ((preparedCellV T.toThrowableT (freshCell P1.m.cls kX) a u0 sen).withEntry W.cur) :=
    ⟨{ ci198 := ci198, i198 := i198, fBack := fB }, ⟨hk198, hg198, ha198, hsB⟩, by
      have := fresh_default (c := P1.m.cls) tyB
      rw [htB] at this
      simpa [preparedCellV, Cell.setSlot, Cell.withEntry, Array.getElem?_setIfInBounds, bC, bS, bP, bC.symm, bS.symm, bP.symm, defaultValue] using this, fun _ _ => rfl⟩
  obtain ⟨tm, methC, cdC, kC, vm₁, hnC, -, -, -, -, -, -, -, hW₁, st1⟩ := Steps.initCold (tb := p.tables) (e := e) (below := below) (s := s) (U := W) X.here hexec X.warmed hpl hown (t := Bundle.init0 cls) rfl rfl (Bundle.fit_spec hcls).2
    (a' (.methodLink own ic (Bundle.init0 cls)) (by simp [Bundle.ownAtoms0])) (h (.instanceMethod (Bundle.init0 cls)) (by cases names <;> simp [Bundle.ownAtoms0, Bundle.chain0Atoms, Bundle.passAtoms])) (bytes := Bundle.five) (maxL := 1) (h (.code (Bundle.init0 cls) Bundle.five 1 none) (by cases names <;> simp [Bundle.ownAtoms0, Bundle.chain0Atoms, Bundle.passAtoms]))
    (f := g) hg (a := a) (rest := .ref a :: rest) hstack hd6
  cases Option.some.inj (hnC.symm.trans hP1m)
  have X₁ := X.noted hW₁
  obtain ⟨vm₂, X₂, st2⟩ := X₁.ctorPlainOffV hexec (g := { g with stack := .ref a :: rest }) hg hsize T L Z LZ (P1 :: Ps)
    (fun P hP => by rcases List.mem_cons.mp hP with rfl | hP; exact L1; exact hL P hP) ⟨hlink1, hlink⟩ (u0 := u0) (sen := sen) (self := a) (cell := freshCell P1.m.cls kX) (cellS := cellS)
    hcell (fun _ => by simp) (by simp) rfl rfl hsel0 hselF hcellS hneS hknownS (by rw [hkeep _ (hout' _)]; exact hu0) (by rw [hkeep _ (hout' _)]; exact hsen)
    (Takes.of_laid hk hord tyC (by rw [Y.causeType]; rfl)) (Takes.of_laid hk hord tyS (by rw [Y.stackType]; exact fits_refV_array _ u0)) (Takes.of_laid hk hord tyP (by rw [Y.suppType]; exact fits_refV_object _ sen)) Y.objLocals hskip htr [] hd6
    (by simp only [List.length_cons, hlen]; omega) (by simp only [List.length_cons, hlen]; exact hRlocals)
  have hlt : a < ((W.setVm vm₁).setVm vm₂).heap.size := (Array.getElem?_eq_some_iff.mp hcell).1
  refine ⟨(W.setVm vm₁).setVm vm₂, _, _, X₂, fun y hy => ?_, hlt, rfl, rfl, fun target hwalk => st1 _ (fun acts => ?_)⟩
  · simp only [List.mem_cons, List.not_mem_nil, or_false] at hy
    rcases hy with rfl | rfl | rfl | rfl <;> rfl
  · rw [doInvoke_state]
    exact st2 _ hwalk
end VXK
section VXK2
variable {p : Program} {l : Launch} {e : Env} {R : Room} {s : State} {m : MethodId} {args : Array Value} {below : List Frame} {meth : Method} {c : Code} {H : Heap} {locs : List Loc} {cells slots : Nat} {Q : State → Prop}
variable {ls : Array Slot} {rest : List Value} {D : va_G} {cl : List vw_C} {tys : List (ClassId × FieldType)} {ws : va_W}
/-- 'new E("text")' that isn't thrown at once: the object goes on the stack -/
theorem vx_makeS {cc : ByteArray} {pc : Nat} (hexec : p.tables.exec = Jvm.exec) (hb : c.code = cc) (hl : l.stackTraces = false) {own cls text : String} {names : List String} {ik is ic sa ci : Nat} {A : Nat → Prop} {T0 : u_T}
    (hown : s.vm.findClass own = some m.cls) (hcls : Bundle.fit cls = true) (hnames : ∀ n ∈ names, Bundle.fit n = true)
    (hk : (Cond.classLink own ik cls).before args s = true) (hini : (Cond.initialized cls).before args s = true) (hstr : vk_R own is text sa s) (hat : ∀ w ∈ vx_atS own ic cls names, w.before args s = true)
    (hgood : ∀ w ∈ Cond.classLink own ik cls :: Cond.initialized cls :: vx_atS own ic cls names, vx_ot w = true)
    (hU : vx_Zq Bundle.tN "UNASSIGNED_STACK" Bundle.steD A s s.heap) (hN : vx_Zq Bundle.tN "SUPPRESSED_SENTINEL" Bundle.listD A s s.heap) (hS : va_S A s.heap H locs) (hsize : ls.size = c.maxLocals)
    (d0 : decode cc pc = .ok (.new ik, 3)) (d3 : decode cc (pc + 3) = .ok (.dup, 1)) (d4 : decode cc (pc + 4) = .ok (.ldc is, 2)) (d6 : decode cc (pc + 6) = .ok (.invokespecial ic, 3))
    (hK : va_K D cl tys s) (hP : va_P D cl ws H) (hD : va_D A ws) (hA : ∀ q, s.heap.size ≤ q → A q) (hc : cl[ci]? = some (cls, T0, 0))
    (hRframes : names.length + 3 < R.frames) (hRlocals : (rest.map fun v => v.category).sum + (13 * (names.length + 1) + 43) ≤ R.locals) (hRcells : cells + 1 ≤ R.cells) (hRslots : slots + 6 ≤ R.slots)
    (kk : ∀ (q : Nat) (H1 : Heap), va_P D cl (ws ++ [(q, .inr (ci, []))]) H1 → va_D A (ws ++ [(q, .inr (ci, []))]) → va_S A s.heap H1 locs → W p l e R s m args below meth c H1 locs (cells + 1) (slots + 6) Q (F0 m (pc + 9) ls (.ref q :: rest))) :
    W p l e R s m args below meth c H locs cells slots Q (F0 m pc ls rest) := by
  intro T hT X
  subst hT
  have htr : e.platform.stackTraces = false := (show e.platform.stackTraces = l.stackTraces by rw [X.admits.platform]).trans hl
  have Y := vx_rebase X (R' := { frames := R.frames, locals := R.locals, cells := 1, slots := 6 }) (Nat.le_refl _) (Nat.le_refl _) hRcells hRslots
  obtain ⟨s', hA'⟩ : ∃ z, z = (T.setVm s.vm).setFrames (.invoking m args :: below) := ⟨_, rfl⟩
  rw [← hA'] at Y
  have hvm : s'.vm = s.vm := by rw [hA']; rfl
  have hhp : s'.heap = T.heap := by rw [hA']; rfl
  have hW0 : s.WarmedH s'.vm := by rw [hvm]; exact State.WarmedH.refl s
  have hat' : ∀ w ∈ vx_atS own ic cls names, w.before args s' = true := fun w hw => vx_ot_at hW0 hvm.symm (hgood w (List.mem_cons_of_mem _ (List.mem_cons_of_mem _ hw))) (hat w hw)
  have hk' : (Cond.classLink own ik cls).before args s' = true := vx_ot_at hW0 hvm.symm (hgood _ List.mem_cons_self) hk
  have hini' : (Cond.initialized cls).before args s' = true := vx_ot_at hW0 hvm.symm (hgood _ (List.mem_cons_of_mem _ List.mem_cons_self)) hini
  have hU' : vx_Zq Bundle.tN "UNASSIGNED_STACK" Bundle.steD A s' s'.heap := by rw [hhp]; exact vx_Zq.moved hW0.alike (hU.kept hS.2.1)
  have hN' : vx_Zq Bundle.tN "SUPPRESSED_SENTINEL" Bundle.listD A s' s'.heap := by rw [hhp]; exact vx_Zq.moved hW0.alike (hN.kept hS.2.1)
  have h : ∀ w ∈ Bundle.ownAtoms own ic cls names, w.before args s' = true := vx_own hat' (vx_isRefq hU'.1) (vx_isRefq hN'.1) hU'.2.word hN'.2.word
  have hown' : s'.vm.findClass own = some m.cls := by rw [hvm]; exact hown
  have hins : (Cond.instantiable cls 6).before args s' = true := h _ (by simp [Bundle.ownAtoms])
  obtain ⟨vm₁, cX, kX, hfX, hkX, -, -, X₁, st1⟩ := Y.newCold hexec (own := own) (C := cls) (index := ik) (n := 6) hown' hk' hins hini'
    (g := F0 m pc ls rest) rfl (by rw [hb]; exact d0) (Nat.le_refl _) (Nat.le_refl _)
  generalize hT1 : (T.setVm vm₁).pushCell { cls := cX, slots := kX.instanceTypes.map defaultValue, vm := .none } = T1 at X₁ st1
  have hcat : (Value.ref T.heap.size).category = 1 := rfl
  have hcellA : T1.heap[T.heap.size]? = some (freshCell cX kX) := by rw [← hT1]; exact State.heap_pushCell_size _ _
  have d3' : decode c.code (pc + 3) = .ok (.dup, 1) := by rw [hb]; exact d3
  have d4' : decode c.code (pc + 4) = .ok (.ldc is, 2) := by rw [hb]; exact d4
  have hstr' : vk_R own is text sa s' := vk_R.warm hW0 hstr
  obtain ⟨V, ce, L, Z, hL, hlt, hcl9, hvm9, st⟩ := vx_ctorMadeS X₁ hexec htr (own := own) (cls := cls) (names := names) (ic := ic) hown' hcls hnames h (fun x hx => nomatch hx) hfX hkX hcellA (by rw [hhp]; exact Nat.le_refl _) (msg := .ref sa) rfl
    (g := { method := m, pc := pc + 6, locals := ls, stack := .ref sa :: .ref T.heap.size :: .ref T.heap.size :: rest, locked := none }) rfl hsize (rest := rest) rfl
    (by rw [hb]; exact d6) hRframes (by simp only [List.map_cons, List.sum_cons, hcat]; omega)
  have Z0 := Stand.forget (locs := []) Z (fun y hy => by rw [hL y hy, hhp]; exact Nat.le_refl _)
  obtain ⟨f1, f2⟩ := vx_frame Z0.same
  rw [hhp] at f1 f2
  have hcid : ce.cls = D.1 ci := by
    rw [hcl9]
    have h1 := (hK.1 ci _ hc).2.1
    rw [hvm] at hfX
    exact Option.some.inj (hfX.symm.trans h1)
  have hh : (V.setCell T.heap.size ce).heap[T.heap.size]? = some ce := heapAt_setCell_self (s := V) ce hlt
  subst hA'
  have X5 := vx_back9 X Y Z0
  have X6 : Stand p l e R s m args below meth c (V.setCell T.heap.size ce) locs (cells + 1) (slots + 6) := { X5 with same := X5.same.mono (by omega) (by omega) }
  have hk9 : ∀ (k : Nat) (x : Nat × va_E), ws[k]? = some x → (V.setCell T.heap.size ce).heap[x.1]? = T.heap[x.1]? := fun k x hx => f2 x.1 ((hP k x hx).lt) (fun z hz => nomatch hz)
  obtain ⟨t, a1, b1⟩ := kk T.heap.size (V.setCell T.heap.size ce).heap ((hP.kept hk9).app (fun k x hx => by
      have hz : k < 1 := (List.getElem?_eq_some_iff.mp hx).1
      rw [show k = 0 by omega] at hx
      cases hx
      exact ⟨_, hc, ce, hh, hcid, hvm9, fun k hk => absurd hk (Nat.not_lt_zero k)⟩)) (hD.push hP rfl (hA _ hS.1)) ⟨Nat.le_trans hS.1 f1, fun q h1 h2 => (f2 q (Nat.lt_of_lt_of_le h1 hS.1) (fun z hz => nomatch hz)).trans (hS.2.1 q h1 h2), hS.2.2⟩ _ rfl X6
  refine ⟨t, st1 _ ?_, b1⟩
  show Steps p.tables e below (T1.setTop { method := m, pc := pc + 3, locals := ls, stack := .ref T.heap.size :: rest, locked := none }) _
  jvm_step X₁.here [X₁.here.top, hexec, d3', Value.category]
  exact X₁.ldcString hexec (own := own) (text := text) (index := is) (a := sa) hown' hstr'.1 hstr'.2
    (g := { method := m, pc := pc + 4, locals := ls, stack := .ref T.heap.size :: .ref T.heap.size :: rest, locked := none }) rfl d4' _ (st _ a1)
/-- 'new E()' that isn't thrown at once: the object goes on the stack -/
theorem vx_make0 {cc : ByteArray} {pc : Nat} (hexec : p.tables.exec = Jvm.exec) (hb : c.code = cc) (hl : l.stackTraces = false) {own cls : String} {names : List String} {ik ic ci : Nat} {A : Nat → Prop} {T0 : u_T}
    (hown : s.vm.findClass own = some m.cls) (hcls : Bundle.fit cls = true) (hnames : ∀ n ∈ names, Bundle.fit n = true)
    (hk : (Cond.classLink own ik cls).before args s = true) (hini : (Cond.initialized cls).before args s = true) (hat : ∀ w ∈ vx_at0 own ic cls names, w.before args s = true)
    (hgood : ∀ w ∈ Cond.classLink own ik cls :: Cond.initialized cls :: vx_at0 own ic cls names, vx_ot w = true)
    (hU : vx_Zq Bundle.tN "UNASSIGNED_STACK" Bundle.steD A s s.heap) (hN : vx_Zq Bundle.tN "SUPPRESSED_SENTINEL" Bundle.listD A s s.heap) (hS : va_S A s.heap H locs) (hsize : ls.size = c.maxLocals)
    (d0 : decode cc pc = .ok (.new ik, 3)) (d3 : decode cc (pc + 3) = .ok (.dup, 1)) (d4 : decode cc (pc + 4) = .ok (.invokespecial ic, 3))
    (hK : va_K D cl tys s) (hP : va_P D cl ws H) (hD : va_D A ws) (hA : ∀ q, s.heap.size ≤ q → A q) (hc : cl[ci]? = some (cls, T0, 0))
    (hRframes : names.length + 3 < R.frames) (hRlocals : (rest.map fun v => v.category).sum + (13 * (names.length + 1) + 42) ≤ R.locals) (hRcells : cells + 1 ≤ R.cells) (hRslots : slots + 6 ≤ R.slots)
    (kk : ∀ (q : Nat) (H1 : Heap), va_P D cl (ws ++ [(q, .inr (ci, []))]) H1 → va_D A (ws ++ [(q, .inr (ci, []))]) → va_S A s.heap H1 locs → W p l e R s m args below meth c H1 locs (cells + 1) (slots + 6) Q (F0 m (pc + 7) ls (.ref q :: rest))) :
    W p l e R s m args below meth c H locs cells slots Q (F0 m pc ls rest) := by
  intro T hT X
  subst hT
  have htr : e.platform.stackTraces = false := (show e.platform.stackTraces = l.stackTraces by rw [X.admits.platform]).trans hl
  have Y := vx_rebase X (R' := { frames := R.frames, locals := R.locals, cells := 1, slots := 6 }) (Nat.le_refl _) (Nat.le_refl _) hRcells hRslots
  obtain ⟨s', hA'⟩ : ∃ z, z = (T.setVm s.vm).setFrames (.invoking m args :: below) := ⟨_, rfl⟩
  rw [← hA'] at Y
  have hvm : s'.vm = s.vm := by rw [hA']; rfl
  have hhp : s'.heap = T.heap := by rw [hA']; rfl
  have hW0 : s.WarmedH s'.vm := by rw [hvm]; exact State.WarmedH.refl s
  have hat' : ∀ w ∈ vx_at0 own ic cls names, w.before args s' = true := fun w hw => vx_ot_at hW0 hvm.symm (hgood w (List.mem_cons_of_mem _ (List.mem_cons_of_mem _ hw))) (hat w hw)
  have hk' : (Cond.classLink own ik cls).before args s' = true := vx_ot_at hW0 hvm.symm (hgood _ List.mem_cons_self) hk
  have hini' : (Cond.initialized cls).before args s' = true := vx_ot_at hW0 hvm.symm (hgood _ (List.mem_cons_of_mem _ List.mem_cons_self)) hini
  have hU' : vx_Zq Bundle.tN "UNASSIGNED_STACK" Bundle.steD A s' s'.heap := by rw [hhp]; exact vx_Zq.moved hW0.alike (hU.kept hS.2.1)
  have hN' : vx_Zq Bundle.tN "SUPPRESSED_SENTINEL" Bundle.listD A s' s'.heap := by rw [hhp]; exact vx_Zq.moved hW0.alike (hN.kept hS.2.1)
  have h : ∀ w ∈ Bundle.ownAtoms0 own ic cls names, w.before args s' = true := vx_own hat' (vx_isRefq hU'.1) (vx_isRefq hN'.1) hU'.2.word hN'.2.word
  have hown' : s'.vm.findClass own = some m.cls := by rw [hvm]; exact hown
  have hins : (Cond.instantiable cls 6).before args s' = true := h _ (by simp [Bundle.ownAtoms0])
  obtain ⟨vm₁, cX, kX, hfX, hkX, -, -, X₁, st1⟩ := Y.newCold hexec (own := own) (C := cls) (index := ik) (n := 6) hown' hk' hins hini'
    (g := F0 m pc ls rest) rfl (by rw [hb]; exact d0) (Nat.le_refl _) (Nat.le_refl _)
  generalize hT1 : (T.setVm vm₁).pushCell { cls := cX, slots := kX.instanceTypes.map defaultValue, vm := .none } = T1 at X₁ st1
  have hcat : (Value.ref T.heap.size).category = 1 := rfl
  have hcellA : T1.heap[T.heap.size]? = some (freshCell cX kX) := by rw [← hT1]; exact State.heap_pushCell_size _ _
  have d3' : decode c.code (pc + 3) = .ok (.dup, 1) := by rw [hb]; exact d3
  obtain ⟨V, ce, L, Z, hL, hlt, hcl9, hvm9, st⟩ := vx_ctorMade0 X₁ hexec htr (own := own) (cls := cls) (names := names) (ic := ic) hown' hcls hnames h (fun x hx => nomatch hx) hfX hkX hcellA (by rw [hhp]; exact Nat.le_refl _)
    (g := { method := m, pc := pc + 4, locals := ls, stack := .ref T.heap.size :: .ref T.heap.size :: rest, locked := none }) rfl hsize (rest := rest) rfl
    (by rw [hb]; exact d4) hRframes (by simp only [List.map_cons, List.sum_cons, hcat]; omega)
  have Z0 := Stand.forget (locs := []) Z (fun y hy => by rw [hL y hy, hhp]; exact Nat.le_refl _)
  obtain ⟨f1, f2⟩ := vx_frame Z0.same
  rw [hhp] at f1 f2
  have hcid : ce.cls = D.1 ci := by
    rw [hcl9]
    have h1 := (hK.1 ci _ hc).2.1
    rw [hvm] at hfX
    exact Option.some.inj (hfX.symm.trans h1)
  have hh : (V.setCell T.heap.size ce).heap[T.heap.size]? = some ce := heapAt_setCell_self (s := V) ce hlt
  subst hA'
  have X5 := vx_back9 X Y Z0
  have X6 : Stand p l e R s m args below meth c (V.setCell T.heap.size ce) locs (cells + 1) (slots + 6) := { X5 with same := X5.same.mono (by omega) (by omega) }
  have hk9 : ∀ (k : Nat) (x : Nat × va_E), ws[k]? = some x → (V.setCell T.heap.size ce).heap[x.1]? = T.heap[x.1]? := fun k x hx => f2 x.1 ((hP k x hx).lt) (fun z hz => nomatch hz)
  obtain ⟨t, a1, b1⟩ := kk T.heap.size (V.setCell T.heap.size ce).heap ((hP.kept hk9).app (fun k x hx => by
      have hz : k < 1 := (List.getElem?_eq_some_iff.mp hx).1
      rw [show k = 0 by omega] at hx
      cases hx
      exact ⟨_, hc, ce, hh, hcid, hvm9, fun k hk => absurd hk (Nat.not_lt_zero k)⟩)) (hD.push hP rfl (hA _ hS.1)) ⟨Nat.le_trans hS.1 f1, fun q h1 h2 => (f2 q (Nat.lt_of_lt_of_le h1 hS.1) (fun z hz => nomatch hz)).trans (hS.2.1 q h1 h2), hS.2.2⟩ _ rfl X6
  refine ⟨t, st1 _ ?_, b1⟩
  show Steps p.tables e below (T1.setTop { method := m, pc := pc + 3, locals := ls, stack := .ref T.heap.size :: rest, locked := none }) _
  jvm_step X₁.here [X₁.here.top, hexec, d3', Value.category]
  exact st _ a1
/-- 'throw x' of an object that was made before -/
theorem vx_athrow {cc : ByteArray} {pc : Nat} (hexec : p.tables.exec = Jvm.exec) (hb : c.code = cc) {q : Addr} (hdg : decode cc pc = .ok (.athrow, 1)) (k : vx_W p l e R s m args below meth c H locs cells slots Q (F0 m pc ls rest) q) : W p l e R s m args below meth c H locs cells slots Q (F0 m pc ls (.ref q :: rest)) := by
  intro T hT X
  obtain ⟨t, st, hq⟩ := k T hT X
  refine ⟨t, ?_, hq⟩
  have hdg' : decode c.code pc = .ok (.athrow, 1) := by rw [hb]; exact hdg
  jvm_step X.here [X.here.top, hexec, hdg', athrow.wp_sem]
  exact st
end VXK2
/-! ===== END ===== -/
/-! ===== BEGIN a constructor that throws (launches without stack traces) ===== -/
section VXIA
variable {p : Program} {l : Launch} {e : Env} {R : Room} {s : State} {m : MethodId} {args : Array Value} {below : List Frame} {meth : Method} {c : Code} {T : State} {locs : List Loc} {cells slots : Nat}
theorem vx_callI (X : Stand p l e R s m args below meth c T locs cells slots) (hexec : p.tables.exec = Jvm.exec) {own : String} {index : Nat} {y : MethodName} {bytes : ByteArray} {maxL : Nat}
    (hown : s.vm.findClass own = some m.cls) (hy1 : y.name = "<init>") (hlink : (Cond.methodLink own index y).before args s = true) (hinst : (Cond.instanceMethod y).before args s = true)
    (hcode : (Cond.code y bytes maxL none).before args s = true) (hy : y.cls ≠ "java/lang/invoke/MethodHandle" ∧ y.cls ≠ "java/lang/invoke/VarHandle")
    {W9 : Nat} {Pre : Pt → Array Value → Prop} {Post : Pt → Array Value → Option Value → Pt → Prop} {PostX : Pt → Array Value → Addr → Pt → Prop} (hK : vx_Back l R p e below s args y 3 W9 Pre Post PostX)
    {g : JFrame} (hg : g.method = m) (hsize : g.locals.size = c.maxLocals) {a : Addr} {argsL rest : List Value} (hlen : ∀ sig, parseMethodDescriptor y.desc = some sig → argsL.length = sig.parameters.length)
    (hstack : g.stack = argsL.reverse ++ .ref a :: rest) (hW : 2 * g.monitorRoom + (rest.map fun v => v.category).sum ≤ W9) (hdg : decode c.code g.pc = .ok (.invokespecial index, 3))
    (hpre : ∀ vm₁, s.WarmedH vm₁ → Pre ⟨T.setVm vm₁, locs, cells, slots⟩ (Value.ref a :: argsL).toArray) :
    (∃ (v : Option Value) (vm₁ : Vm) (B : Pt), s.WarmedH vm₁ ∧ Stand p l e R s m args below meth c B.U B.locs B.cells B.slots ∧ Post ⟨T.setVm vm₁, locs, cells, slots⟩ (Value.ref a :: argsL).toArray v B ∧
      ∀ target, Steps p.tables e below (B.U.setTop { g with pc := g.pc + 3, stack := v.toList ++ rest }) target → Steps p.tables e below (T.setTop g) target) ∨
    (∃ (q : Addr) (vm₁ : Vm) (B : Pt), s.WarmedH vm₁ ∧ Stand p l e R s m args below meth c B.U B.locs B.cells B.slots ∧ PostX ⟨T.setVm vm₁, locs, cells, slots⟩ (Value.ref a :: argsL).toArray q B ∧
      Steps p.tables e below (T.setTop g) ((B.U.setTop { g with stack := rest }).pushFrame (.throwing q))) := by
  subst hg
  have hpl : e.platform.magicAccessors = ({} : Platform).magicAccessors := by rw [X.admits.platform]
  obtain ⟨mk, methM, cM, kP, vm₁, hnamed, hmethM, hcodeM, -, hlocalsM, -, hkP, -, hW₁, hstep₁⟩ := Steps.initColdArgs (e := e) X.here hexec X.warmed hpl hown hy1 hy hlink hinst hcode (f := g) rfl hlen hstack hdg
  have X₁ := X.noted hW₁
  rcases hK g.method meth c ⟨T.setVm vm₁, locs, cells, slots⟩ { g with stack := rest } (.invokespecial index) mk (Value.ref a :: argsL).toArray X₁ rfl hsize hdg hW (X₁.named hnamed) (hpre vm₁ X₁.warmed) with ⟨v, B, X', hpost, hsteps⟩ | ⟨q, B, X', hpost, hsteps⟩
  · exact Or.inl ⟨v, vm₁, B, X₁.warmed, X', hpost, fun target h => hstep₁ _ fun acts => by rw [doInvoke_state]; exact hsteps.trans h⟩
  · exact Or.inr ⟨q, vm₁, B, X₁.warmed, X', hpost, hstep₁ _ fun acts => by rw [doInvoke_state]; exact hsteps⟩
end VXIA
section VXIB
variable {p : Program} {l : Launch} {e : Env} {R : Room} {s : State} {m : MethodId} {args : Array Value} {below : List Frame} {meth : Method} {c : Code} {H : Heap} {locs : List Loc} {cells slots : Nat}
variable {y : MethodName} {bytes cc : ByteArray} {maxL nL mc ms n index : Nat} {ret : Option FieldType} {ws : List Cond} {rm : Room} {Pc : Array Value → State → Prop} {Qc : Array Value → State → Outcome → State → Prop} {XC : String → Addr → State → State → Prop} {free : Addr → Prop} {Ts : List Cond} {own C : String} {b : Addr} {As rest : List Value} {g : JFrame}
theorem vx_runI (S : CallFix p m c cc nL s args Ts own) (hM : vx_Met l y ws rm Pc Qc XC mc ms free) (cw : CallB R s args own index y bytes maxL none ws rm mc ms n ∧ y.name = "<init>" ∧ (Cond.instanceMethod y).before args s = true) (hp : PreS s H Pc (.ref b :: As))
    (hg : g.method = m) (hn : As.length = n) (hsize : g.locals.size = nL) (hstack : g.stack = As.reverse ++ .ref b :: rest) (hW : 2 * g.monitorRoom + (rest.map fun v => v.category).sum ≤ 8) (hdg : decode cc g.pc = .ok (.invokespecial index, 3)) (hf : cells + mc ≤ R.cells ∧ slots + ms ≤ R.slots) :
    vx_Run p l e R s m args below meth c H locs cells slots mc ms g rest (Qc (Value.ref b :: As).toArray) XC free := by
  have hK : vx_Back l R p e below s args y 3 8 (PreOf R mc ms Pc) (PostOf Qc mc ms free) (vx_Post XC mc ms free) := vx_callBack cw.1 hM hp.1
  obtain ⟨⟨-, -, -, -, -, -, hcode, -, hy, hlen, hl⟩, hy1, hin⟩ := cw
  obtain ⟨hx, hb, hml, ho, -⟩ := S
  have hPc := hp.2
  intro T hT X
  rcases vx_callI X hx (bytes := bytes) (maxL := maxL) ho hy1 hl hin hcode hy hK hg (hsize.trans hml.symm) (a := b) (argsL := As) (rest := rest) (fun sig h => hn.trans (hlen sig h)) hstack hW (by rw [hb]; exact hdg)
    (fun vm₁ hW₁ => ⟨hf.1, hf.2, hPc (T.setVm vm₁) hT hW₁⟩) with ⟨v, vm₁, ⟨U', l2, c2, s2⟩, hW₁, X', ⟨g', mk, t, L, e1, e2, hq, h1, hL, h2, h3⟩, st⟩ | ⟨q, vm₁, ⟨U', l2, c2, s2⟩, hW₁, X', ⟨g', mk, t, L, E, ce, e1, e2, hq, hce, hcv, hcl, h1, hL, h2, h3⟩, st⟩
  · dsimp only [Pt.U, Pt.locs, Pt.cells, Pt.slots] at X' e1 e2 h1 h2 h3 st
    subst h1; subst h2; subst h3
    exact Or.inl ⟨v, (T.setVm vm₁).calling g' mk (Value.ref b :: As).toArray, t, U', L, hT, X', hL, e1, e2, hq, st⟩
  · dsimp only [Pt.U, Pt.locs, Pt.cells, Pt.slots] at X' e1 e2 h1 h2 h3 st hcl
    subst h1; subst h2; subst h3
    exact Or.inr ⟨q, (T.setVm vm₁).calling g' mk (Value.ref b :: As).toArray, t, U', L, E, ce, hT, X', hL, e1, e2, hq, hce, hcv, vx_cls hW₁ hcl, st⟩
end VXIB
/-! ===== END ===== -/
/-! ===== BEGIN a private constructor of a nest mate that throws ===== -/
section VXIC
variable {p : Program} {l : Launch} {e : Env} {R : Room} {s : State} {m : MethodId} {args : Array Value} {below : List Frame} {meth : Method} {c : Code} {T : State} {locs : List Loc} {cells slots : Nat}
theorem vx_callIN (X : Stand p l e R s m args below meth c T locs cells slots) (hexec : p.tables.exec = Jvm.exec) {own : String} {index : Nat} {host : String} {y : MethodName} {bytes : ByteArray} {maxL : Nat}
    (hown : s.vm.findClass own = some m.cls) (hy1 : y.name = "<init>") (hlink : (Cond.methodLinkNest own index y host).before args s = true) (hinst : (Cond.instanceMethod y).before args s = true)
    (hcode : (Cond.code y bytes maxL none).before args s = true) (hy : y.cls ≠ "java/lang/invoke/MethodHandle" ∧ y.cls ≠ "java/lang/invoke/VarHandle")
    {W9 : Nat} {Pre : Pt → Array Value → Prop} {Post : Pt → Array Value → Option Value → Pt → Prop} {PostX : Pt → Array Value → Addr → Pt → Prop} (hK : vx_Back l R p e below s args y 3 W9 Pre Post PostX)
    {g : JFrame} (hg : g.method = m) (hsize : g.locals.size = c.maxLocals) {a : Addr} {argsL rest : List Value} (hlen : ∀ sig, parseMethodDescriptor y.desc = some sig → argsL.length = sig.parameters.length)
    (hstack : g.stack = argsL.reverse ++ .ref a :: rest) (hW : 2 * g.monitorRoom + (rest.map fun v => v.category).sum ≤ W9) (hdg : decode c.code g.pc = .ok (.invokespecial index, 3))
    (hpre : ∀ vm₁, s.WarmedH vm₁ → Pre ⟨T.setVm vm₁, locs, cells, slots⟩ (Value.ref a :: argsL).toArray) :
    (∃ (v : Option Value) (vm₁ : Vm) (B : Pt), s.WarmedH vm₁ ∧ Stand p l e R s m args below meth c B.U B.locs B.cells B.slots ∧ Post ⟨T.setVm vm₁, locs, cells, slots⟩ (Value.ref a :: argsL).toArray v B ∧
      ∀ target, Steps p.tables e below (B.U.setTop { g with pc := g.pc + 3, stack := v.toList ++ rest }) target → Steps p.tables e below (T.setTop g) target) ∨
    (∃ (q : Addr) (vm₁ : Vm) (B : Pt), s.WarmedH vm₁ ∧ Stand p l e R s m args below meth c B.U B.locs B.cells B.slots ∧ PostX ⟨T.setVm vm₁, locs, cells, slots⟩ (Value.ref a :: argsL).toArray q B ∧
      Steps p.tables e below (T.setTop g) ((B.U.setTop { g with stack := rest }).pushFrame (.throwing q))) := by
  subst hg
  have hpl : e.platform.magicAccessors = ({} : Platform).magicAccessors := by rw [X.admits.platform]
  obtain ⟨mk, methM, cM, kP, vm₁, hnamed, hmethM, hcodeM, -, hlocalsM, -, hkP, -, hW₁, hstep₁⟩ := Steps.initColdArgsNest (e := e) X.here hexec X.warmed hpl hown hy1 hy hlink hinst hcode (f := g) rfl hlen hstack hdg
  have X₁ := X.noted hW₁
  rcases hK g.method meth c ⟨T.setVm vm₁, locs, cells, slots⟩ { g with stack := rest } (.invokespecial index) mk (Value.ref a :: argsL).toArray X₁ rfl hsize hdg hW (X₁.named hnamed) (hpre vm₁ X₁.warmed) with ⟨v, B, X', hpost, hsteps⟩ | ⟨q, B, X', hpost, hsteps⟩
  · exact Or.inl ⟨v, vm₁, B, X₁.warmed, X', hpost, fun target h => hstep₁ _ fun acts => by rw [doInvoke_state]; exact hsteps.trans h⟩
  · exact Or.inr ⟨q, vm₁, B, X₁.warmed, X', hpost, hstep₁ _ fun acts => by rw [doInvoke_state]; exact hsteps⟩
end VXIC
section VXID
variable {p : Program} {l : Launch} {e : Env} {R : Room} {s : State} {m : MethodId} {args : Array Value} {below : List Frame} {meth : Method} {c : Code} {H : Heap} {locs : List Loc} {cells slots : Nat}
theorem vx_runIN {y : MethodName} {bytes cc : ByteArray} {maxL nL mc ms n index : Nat} {ws : List Cond} {rm : Room} {Pc : Array Value → State → Prop} {Qc : Array Value → State → Outcome → State → Prop} {XC : String → Addr → State → State → Prop} {free : Addr → Prop} {Ts : List Cond} {own host : String} {b : Addr} {As rest : List Value} {g : JFrame}
    (S : CallFix p m c cc nL s args Ts own) (hM : vx_Met l y ws rm Pc Qc XC mc ms free) (cw : va_CN R s args own index y host bytes maxL none ws rm mc ms n ∧ y.name = "<init>" ∧ (Cond.instanceMethod y).before args s = true) (hp : PreS s H Pc (.ref b :: As))
    (hg : g.method = m) (hn : As.length = n) (hsize : g.locals.size = nL) (hstack : g.stack = As.reverse ++ .ref b :: rest) (hW : 2 * g.monitorRoom + (rest.map fun v => v.category).sum ≤ 8) (hdg : decode cc g.pc = .ok (.invokespecial index, 3)) (hf : cells + mc ≤ R.cells ∧ slots + ms ≤ R.slots) :
    vx_Run p l e R s m args below meth c H locs cells slots mc ms g rest (Qc (Value.ref b :: As).toArray) XC free := by
  obtain ⟨⟨⟨hrc, hrs, hfr, hlo, hws, hcw⟩, hcode, hini, hy, hlen, hl⟩, hx1, hx2⟩ := cw
  have hK : vx_Back l R p e below s args y 3 8 (PreOf R mc ms Pc) (PostOf Qc mc ms free) (vx_Post XC mc ms free) := vx_back (bytes := bytes) (maxL := maxL) (ret := none) hM hp.1 hrc hrs hfr hlo hws hcw (fun a' U hW => word_at hW (Or.inl (by first | rfl | simp [Cond.onTables, Cond.keeps, Cond.steady])) hini)
  obtain ⟨hx, hb, hml, ho, -⟩ := S
  have hPc := hp.2
  intro T hT X
  rcases vx_callIN X hx (bytes := bytes) (maxL := maxL) ho hx1 hl hx2 hcode hy hK hg (hsize.trans hml.symm) (a := b) (argsL := As) (rest := rest) (fun sig h => hn.trans (hlen sig h)) hstack hW (by rw [hb]; exact hdg)
    (fun vm₁ hW₁ => ⟨hf.1, hf.2, hPc (T.setVm vm₁) hT hW₁⟩) with ⟨v, vm₁, ⟨U', l2, c2, s2⟩, hW₁, X', ⟨g', mk, t, L, e1, e2, hq, h1, hL, h2, h3⟩, st⟩ | ⟨q, vm₁, ⟨U', l2, c2, s2⟩, hW₁, X', ⟨g', mk, t, L, E, ce, e1, e2, hq, hce, hcv, hcl, h1, hL, h2, h3⟩, st⟩
  · dsimp only [Pt.U, Pt.locs, Pt.cells, Pt.slots] at X' e1 e2 h1 h2 h3 st
    subst h1; subst h2; subst h3
    exact Or.inl ⟨v, (T.setVm vm₁).calling g' mk (Value.ref b :: As).toArray, t, U', L, hT, X', hL, e1, e2, hq, st⟩
  · dsimp only [Pt.U, Pt.locs, Pt.cells, Pt.slots] at X' e1 e2 h1 h2 h3 st hcl
    subst h1; subst h2; subst h3
    exact Or.inr ⟨q, (T.setVm vm₁).calling g' mk (Value.ref b :: As).toArray, t, U', L, E, ce, hT, X', hL, e1, e2, hq, hce, hcv, vx_cls hW₁ hcl, st⟩
end VXID
/-! ===== END ===== -/
/-! ===== BEGIN a method of a class above, found by the receiver, that may throw (follows va_callVU, va_runU of this kit) ===== -/
section
variable {p : Program} {l : Launch} {e : Env} {R : Room} {s : State} {m : MethodId} {args : Array Value} {below : List Frame} {meth : Method} {c : Code} {H : Heap} {locs : List Loc} {cells slots : Nat}
theorem vx_callVU {T : State} {locs : List Loc} {cells slots : Nat} (X : Stand p l e R s m args below meth c T locs cells slots) (hexec : p.tables.exec = Jvm.exec) {own C owner : String} {index : Nat} {x y : MethodName} {bytes : ByteArray} {maxL : Nat} {ret : Option FieldType}
    (hown : s.vm.findClass own = some m.cls) (hlink : (Cond.methodLink own index x).before args s = true) (hsame : (Cond.sameMethod x.cls owner x.name x.desc).before args s = true)
    (hd0 : va_Decl s ⟨owner, x.name, x.desc⟩) (howner : owner ≠ "java/lang/invoke/MethodHandle" ∧ owner ≠ "java/lang/invoke/VarHandle")
    (hsel : (Cond.selects C x y).before args s = true) (hinst : (Cond.instanceMethod y).before args s = true) (hcode : (Cond.code y bytes maxL ret).before args s = true)
    {W : Nat} {Pre : Pt → Array Value → Prop} {Post : Pt → Array Value → Option Value → Pt → Prop} {PostX : Pt → Array Value → Addr → Pt → Prop} (hK : vx_Back l R p e below s args y 3 W Pre Post PostX)
    {b : Addr} {cellB : Cell} (hcell : T.heap[b]? = some cellB) (hobj : cellB.vm.isStatics = false) (hcls : s.vm.findClass C = some cellB.cls)
    {g : JFrame} (hg : g.method = m) (hsize : g.locals.size = c.maxLocals) {argsL rest : List Value} (hlen : ∀ sig, parseMethodDescriptor x.desc = some sig → argsL.length = sig.parameters.length)
    (hstack : g.stack = argsL.reverse ++ .ref b :: rest) (hW : 2 * g.monitorRoom + (rest.map fun v => v.category).sum ≤ W) (hdg : decode c.code g.pc = .ok (.invokevirtual index, 3))
    (hpre : ∀ vm₁, s.WarmedH vm₁ → Pre ⟨T.setVm vm₁, locs, cells, slots⟩ (Value.ref b :: argsL).toArray) :
    (∃ (v : Option Value) (vm₁ : Vm) (B : Pt), s.WarmedH vm₁ ∧ Stand p l e R s m args below meth c B.U B.locs B.cells B.slots ∧ Post ⟨T.setVm vm₁, locs, cells, slots⟩ (Value.ref b :: argsL).toArray v B ∧
      ∀ target, Steps p.tables e below (B.U.setTop { g with pc := g.pc + 3, stack := v.toList ++ rest }) target → Steps p.tables e below (T.setTop g) target) ∨
    (∃ (q : Addr) (vm₁ : Vm) (B : Pt), s.WarmedH vm₁ ∧ Stand p l e R s m args below meth c B.U B.locs B.cells B.slots ∧ PostX ⟨T.setVm vm₁, locs, cells, slots⟩ (Value.ref b :: argsL).toArray q B ∧
      Steps p.tables e below (T.setTop g) ((B.U.setTop { g with stack := rest }).pushFrame (.throwing q))) := by
  obtain ⟨r0, r, hn, hrm, hstR, hsigR⟩ := hd0
  obtain ⟨cn, ck, r1, hcn, hck, hni, hf, hn1⟩ := Cond.sameMethod_found hsame
  cases hn.symm.trans hn1
  obtain ⟨mk, methM, hnamed, hmethM, -, habM⟩ := Cond.instanceMethod_spec hinst
  obtain ⟨c2, r2, m2, q1, q2, q3, q4, kP, hkP, hkPi⟩ := Cond.selects_spec hsel
  cases hcls.symm.trans q1
  cases hf.symm.trans q2
  cases hnamed.symm.trans q3
  have hselP : selectMethod e.platform s.vm cellB.cls r0 = .method mk := by rw [Launch.admits_selectMethod X.admits]; exact q4
  obtain ⟨vm₁, X₁, hstep₁⟩ := X.invokevirtualUp hexec hown hlink hsame howner hn hrm hstR (a := b) (cell := cellB) hcell
    (fun z h => by rw [h] at hobj; cases hobj) hselP hmethM habM hkP hkPi (g := g) hg (argsL := argsL) (rest := rest) (hlen _ hsigR) hstack hdg
  rcases hK m meth c ⟨T.setVm vm₁, locs, cells, slots⟩ { g with stack := rest } (.invokevirtual index) mk (Value.ref b :: argsL).toArray X₁ hg hsize hdg hW (X₁.named hnamed) (hpre vm₁ X₁.warmed) with ⟨v, B, X', hpost, hsteps⟩ | ⟨q, B, X', hpost, hsteps⟩
  · exact Or.inl ⟨v, vm₁, B, X₁.warmed, X', hpost, fun target h => hstep₁ _ fun acts => by rw [doInvoke_state]; exact hsteps.trans h⟩
  · exact Or.inr ⟨q, vm₁, B, X₁.warmed, X', hpost, hstep₁ _ fun acts => by rw [doInvoke_state]; exact hsteps⟩
theorem vx_runU {x y : MethodName} {bytes cc : ByteArray} {maxL nL mc ms n index : Nat} {ret : Option FieldType} {ws : List Cond} {rm : Room} {Pc : Array Value → State → Prop} {Qc : Array Value → State → Outcome → State → Prop} {XC : String → Addr → State → State → Prop} {free : Addr → Prop} {Ts : List Cond} {own C owner : String} {b : Addr} {As rest : List Value} {g : JFrame}
    (S : CallFix p m c cc nL s args Ts own) (hM : vx_Met l y ws rm Pc Qc XC mc ms free) (cw : va_CU R s args own C owner index x y bytes maxL ret ws rm mc ms n) (hp : PreV s H C b Pc As)
    (hg : g.method = m) (hn : As.length = n) (hsize : g.locals.size = nL) (hstack : g.stack = As.reverse ++ .ref b :: rest) (hW : 2 * g.monitorRoom + (rest.map fun v => v.category).sum ≤ 8) (hdg : decode cc g.pc = .ok (.invokevirtual index, 3)) (hf : cells + mc ≤ R.cells ∧ slots + ms ≤ R.slots) :
    vx_Run p l e R s m args below meth c H locs cells slots mc ms g rest (Qc (Value.ref b :: As).toArray) XC free := by
  obtain ⟨hrc, hrs, hfr, hlo, hws, hcw⟩ := cw.back
  have hini := cw.init
  have hK : vx_Back l R p e below s args y 3 8 (PreOf R mc ms Pc) (PostOf Qc mc ms free) (vx_Post XC mc ms free) := vx_back (bytes := bytes) (maxL := maxL) (ret := ret) hM hp.1 hrc hrs hfr hlo hws hcw (fun a' U hW => word_at hW (Or.inl (by first | rfl | simp [Cond.onTables, Cond.keeps, Cond.steady])) hini)
  obtain ⟨hx, hb, hml, ho, -⟩ := S
  obtain ⟨-, ⟨cellB, hcB, hoB, hclB⟩, hPc⟩ := hp
  intro T hT X
  rcases vx_callVU X hx (C := C) (owner := owner) (bytes := bytes) (maxL := maxL) (ret := ret) ho cw.link cw.same cw.decl cw.notMH cw.sel cw.inst cw.code hK (by rw [hT]; exact hcB) hoB hclB hg (hsize.trans hml.symm) (argsL := As) (rest := rest) (fun sig h => hn.trans (cw.len sig h)) hstack hW (by rw [hb]; exact hdg)
    (fun vm₁ hW₁ => ⟨hf.1, hf.2, hPc (T.setVm vm₁) hT hW₁⟩) with ⟨v, vm₁, ⟨U', l2, c2, s2⟩, hW₁, X', ⟨g', mk, t, L, e1, e2, hq, h1, hL, h2, h3⟩, st⟩ | ⟨q, vm₁, ⟨U', l2, c2, s2⟩, hW₁, X', ⟨g', mk, t, L, E, ce, e1, e2, hq, hce, hcv, hcl, h1, hL, h2, h3⟩, st⟩
  · dsimp only [Pt.U, Pt.locs, Pt.cells, Pt.slots] at X' e1 e2 h1 h2 h3 st
    subst h1; subst h2; subst h3
    exact Or.inl ⟨v, (T.setVm vm₁).calling g' mk (Value.ref b :: As).toArray, t, U', L, hT, X', hL, e1, e2, hq, st⟩
  · dsimp only [Pt.U, Pt.locs, Pt.cells, Pt.slots] at X' e1 e2 h1 h2 h3 st hcl
    subst h1; subst h2; subst h3
    exact Or.inr ⟨q, (T.setVm vm₁).calling g' mk (Value.ref b :: As).toArray, t, U', L, E, ce, hT, X', hL, e1, e2, hq, hce, hcv, vx_cls hW₁ hcl, st⟩
end
/-! ===== END ===== -/
/-! ===== BEGIN super.m(..) that may throw (follows va_callSU, va_runSU) ===== -/
section
variable {p : Program} {l : Launch} {e : Env} {R : Room} {s : State} {m : MethodId} {args : Array Value} {below : List Frame} {meth : Method} {c : Code} {H : Heap} {locs : List Loc} {cells slots : Nat}
theorem vx_callSU {T : State} {locs : List Loc} {cells slots : Nat} (X : Stand p l e R s m args below meth c T locs cells slots) (hexec : p.tables.exec = Jvm.exec) {own : String} {index : Nat} {y : MethodName} {bytes : ByteArray} {maxL : Nat} {ret : Option FieldType}
    (hown : s.vm.findClass own = some m.cls) (hlink : (Cond.methodLink own index y).before args s = true) (hsame : (Cond.sameMethod y.cls y.cls y.name y.desc).before args s = true) (hsup : (Cond.superclass own y.cls).before args s = true)
    (hinst : (Cond.instanceMethod y).before args s = true) (hcode : (Cond.code y bytes maxL ret).before args s = true) (hno : y.name ≠ "<init>")
    {W : Nat} {Pre : Pt → Array Value → Prop} {Post : Pt → Array Value → Option Value → Pt → Prop} {PostX : Pt → Array Value → Addr → Pt → Prop} (hK : vx_Back l R p e below s args y 3 W Pre Post PostX)
    {b : Addr} {cellB : Cell} {kB : Class} (hcell : T.heap[b]? = some cellB) (hobj : cellB.vm.isStatics = false) (hkB : s.vm.classes[cellB.cls]? = some kB)
    {g : JFrame} (hg : g.method = m) (hsize : g.locals.size = c.maxLocals) {argsL rest : List Value} (hlen : ∀ sig, parseMethodDescriptor y.desc = some sig → argsL.length = sig.parameters.length)
    (hstack : g.stack = argsL.reverse ++ .ref b :: rest) (hW : 2 * g.monitorRoom + (rest.map fun v => v.category).sum ≤ W) (hdg : decode c.code g.pc = .ok (.invokespecial index, 3))
    (hpre : ∀ vm₁, s.WarmedH vm₁ → Pre ⟨T.setVm vm₁, locs, cells, slots⟩ (Value.ref b :: argsL).toArray) :
    (∃ (v : Option Value) (vm₁ : Vm) (B : Pt), s.WarmedH vm₁ ∧ Stand p l e R s m args below meth c B.U B.locs B.cells B.slots ∧ Post ⟨T.setVm vm₁, locs, cells, slots⟩ (Value.ref b :: argsL).toArray v B ∧
      ∀ target, Steps p.tables e below (B.U.setTop { g with pc := g.pc + 3, stack := v.toList ++ rest }) target → Steps p.tables e below (T.setTop g) target) ∨
    (∃ (q : Addr) (vm₁ : Vm) (B : Pt), s.WarmedH vm₁ ∧ Stand p l e R s m args below meth c B.U B.locs B.cells B.slots ∧ PostX ⟨T.setVm vm₁, locs, cells, slots⟩ (Value.ref b :: argsL).toArray q B ∧
      Steps p.tables e below (T.setTop g) ((B.U.setTop { g with stack := rest }).pushFrame (.throwing q))) := by
  obtain ⟨mk, methM, hnamed, hmethM, hstM, habM⟩ := Cond.instanceMethod_spec hinst
  obtain ⟨methM', cM, hmethM', -, -, -, -, -, -, hsigM⟩ := Cond.code_spec hnamed hcode
  cases hmethM.symm.trans hmethM'
  obtain ⟨ps, dk, kp, hps, hdk, hkp, hsuper, -, -, hnid⟩ := Cond.superclass_spec hown hsup
  have hn : s.methodNamed? ⟨y.cls, y.name, y.desc⟩ = some mk := hnamed
  have hpm : ps = mk.cls := Option.some.inj (hps.symm.trans (findClass_of_methodNamed hnamed))
  have hsub : s.vm.isSubclass ps mk.cls = true := by rw [hpm]; simp [Vm.isSubclass, Vm.isSubclassAux]
  obtain ⟨vm₁, X₁, hstep₁⟩ := X.invokespecialUp hexec hown hlink hsame hn hmethM hstM habM hno hdk hnid hps hsuper hsub (a := b) (cell := cellB) hcell
    (fun z h => by rw [h] at hobj; cases hobj) hkB (g := g) hg (argsL := argsL) (rest := rest) (hlen _ hsigM) hstack hdg
  rcases hK m meth c ⟨T.setVm vm₁, locs, cells, slots⟩ { g with stack := rest } (.invokespecial index) mk (Value.ref b :: argsL).toArray X₁ hg hsize hdg hW (X₁.named hnamed) (hpre vm₁ X₁.warmed) with ⟨v, B, X', hpost, hsteps⟩ | ⟨q, B, X', hpost, hsteps⟩
  · exact Or.inl ⟨v, vm₁, B, X₁.warmed, X', hpost, fun target h => hstep₁ _ (by rw [doInvoke_state]; exact hsteps.trans h)⟩
  · exact Or.inr ⟨q, vm₁, B, X₁.warmed, X', hpost, hstep₁ _ (by rw [doInvoke_state]; exact hsteps)⟩
theorem vx_runSU {y : MethodName} {bytes cc : ByteArray} {maxL nL mc ms n index : Nat} {ret : Option FieldType} {ws : List Cond} {rm : Room} {Pc : Array Value → State → Prop} {Qc : Array Value → State → Outcome → State → Prop} {XC : String → Addr → State → State → Prop} {free : Addr → Prop} {Ts : List Cond} {own C : String} {cC : ClassId} {b : Addr} {As rest : List Value} {g : JFrame}
    (hat : ClassAt s C cC) (S : CallFix p m c cc nL s args Ts own) (hM : vx_Met l y ws rm Pc Qc XC mc ms free) (cw : va_CS R s args own index y bytes maxL ret ws rm mc ms n) (hp : PreV s H C b Pc As)
    (hg : g.method = m) (hn : As.length = n) (hsize : g.locals.size = nL) (hstack : g.stack = As.reverse ++ .ref b :: rest) (hW : 2 * g.monitorRoom + (rest.map fun v => v.category).sum ≤ 8) (hdg : decode cc g.pc = .ok (.invokespecial index, 3)) (hf : cells + mc ≤ R.cells ∧ slots + ms ≤ R.slots) :
    vx_Run p l e R s m args below meth c H locs cells slots mc ms g rest (Qc (Value.ref b :: As).toArray) XC free := by
  obtain ⟨⟨hrc, hrs, hfr, hlo, hws, hcw⟩, hl1, hl2, hl3, hl4, hini, hcode, hno, hlen⟩ := cw
  have hK : vx_Back l R p e below s args y 3 8 (PreOf R mc ms Pc) (PostOf Qc mc ms free) (vx_Post XC mc ms free) := vx_back (bytes := bytes) (maxL := maxL) (ret := ret) hM hp.1 hrc hrs hfr hlo hws hcw (fun a' U hW => word_at hW (Or.inl (by first | rfl | simp [Cond.onTables, Cond.keeps, Cond.steady])) hini)
  obtain ⟨hx, hb, hml, ho, -⟩ := S
  obtain ⟨-, ⟨cellB, hcB, hoB, hclB⟩, hPc⟩ := hp
  obtain ⟨hfc, kB, hkB, -⟩ := hat
  cases hfc.symm.trans hclB
  intro T hT X
  rcases vx_callSU X hx (bytes := bytes) (maxL := maxL) (ret := ret) ho hl1 hl2 hl3 hl4 hcode hno hK (by rw [hT]; exact hcB) hoB hkB hg (hsize.trans hml.symm) (argsL := As) (rest := rest) (fun sig h => hn.trans (hlen sig h)) hstack hW (by rw [hb]; exact hdg)
    (fun vm₁ hW₁ => ⟨hf.1, hf.2, hPc (T.setVm vm₁) hT hW₁⟩) with ⟨v, vm₁, ⟨U', l2, c2, s2⟩, hW₁, X', ⟨g', mk, t, L, e1, e2, hq, h1, hL, h2, h3⟩, st⟩ | ⟨q, vm₁, ⟨U', l2, c2, s2⟩, hW₁, X', ⟨g', mk, t, L, E, ce, e1, e2, hq, hce, hcv, hcl, h1, hL, h2, h3⟩, st⟩
  · dsimp only [Pt.U, Pt.locs, Pt.cells, Pt.slots] at X' e1 e2 h1 h2 h3 st
    subst h1; subst h2; subst h3
    exact Or.inl ⟨v, (T.setVm vm₁).calling g' mk (Value.ref b :: As).toArray, t, U', L, hT, X', hL, e1, e2, hq, st⟩
  · dsimp only [Pt.U, Pt.locs, Pt.cells, Pt.slots] at X' e1 e2 h1 h2 h3 st hcl
    subst h1; subst h2; subst h3
    exact Or.inr ⟨q, (T.setVm vm₁).calling g' mk (Value.ref b :: As).toArray, t, U', L, E, ce, hT, X', hL, e1, e2, hq, hce, hcv, vx_cls hW₁ hcl, st⟩
end
/-! ===== END ===== -/
/-! ===== BEGIN a private method of a nest mate that may throw (follows va_callVN, va_callSN, va_runVN, va_runSN) ===== -/
section
variable {p : Program} {l : Launch} {e : Env} {R : Room} {s : State} {m : MethodId} {args : Array Value} {below : List Frame} {meth : Method} {c : Code} {H : Heap} {locs : List Loc} {cells slots : Nat}
variable {T : State}
theorem vx_callVN (X : Stand p l e R s m args below meth c T locs cells slots) (hexec : p.tables.exec = Jvm.exec) {own C : String} {index : Nat} {host : String} {y : MethodName} {bytes : ByteArray} {maxL : Nat} {ret : Option FieldType}
    (hown : s.vm.findClass own = some m.cls) (hlink : (Cond.methodLinkNest own index y host).before args s = true) (hinst : (Cond.instanceMethod y).before args s = true) (hsel : (Cond.selects C y y).before args s = true)
    (hcode : (Cond.code y bytes maxL ret).before args s = true) (hy : y.cls ≠ "java/lang/invoke/MethodHandle" ∧ y.cls ≠ "java/lang/invoke/VarHandle")
    {W : Nat} {Pre : Pt → Array Value → Prop} {Post : Pt → Array Value → Option Value → Pt → Prop} {PostX : Pt → Array Value → Addr → Pt → Prop} (hK : vx_Back l R p e below s args y 3 W Pre Post PostX)
    {b : Addr} {cellB : Cell} (hcell : T.heap[b]? = some cellB) (hobj : cellB.vm.isStatics = false) (hcls : s.vm.findClass C = some cellB.cls)
    {g : JFrame} (hg : g.method = m) (hsize : g.locals.size = c.maxLocals) {argsL rest : List Value} (hlen : ∀ sig, parseMethodDescriptor y.desc = some sig → argsL.length = sig.parameters.length)
    (hstack : g.stack = argsL.reverse ++ .ref b :: rest) (hW : 2 * g.monitorRoom + (rest.map fun v => v.category).sum ≤ W) (hdg : decode c.code g.pc = .ok (.invokevirtual index, 3))
    (hpre : ∀ vm₁, s.WarmedH vm₁ → Pre ⟨T.setVm vm₁, locs, cells, slots⟩ (Value.ref b :: argsL).toArray) :
    (∃ (v : Option Value) (vm₁ : Vm) (B : Pt), s.WarmedH vm₁ ∧ Stand p l e R s m args below meth c B.U B.locs B.cells B.slots ∧ Post ⟨T.setVm vm₁, locs, cells, slots⟩ (Value.ref b :: argsL).toArray v B ∧
      ∀ target, Steps p.tables e below (B.U.setTop { g with pc := g.pc + 3, stack := v.toList ++ rest }) target → Steps p.tables e below (T.setTop g) target) ∨
    (∃ (q : Addr) (vm₁ : Vm) (B : Pt), s.WarmedH vm₁ ∧ Stand p l e R s m args below meth c B.U B.locs B.cells B.slots ∧ PostX ⟨T.setVm vm₁, locs, cells, slots⟩ (Value.ref b :: argsL).toArray q B ∧
      Steps p.tables e below (T.setTop g) ((B.U.setTop { g with stack := rest }).pushFrame (.throwing q))) := by
  obtain ⟨mk, methM, hnamed, hmethM, hstM, habM⟩ := Cond.instanceMethod_spec hinst
  obtain ⟨methM', cM, hmethM', -, -, -, -, -, -, hsigM⟩ := Cond.code_spec hnamed hcode
  cases hmethM.symm.trans hmethM'
  obtain ⟨c2, r2, m2, q1, q2, q3, q4, kP, hkP, hkPi⟩ := Cond.selects_spec hsel
  cases hcls.symm.trans q1
  cases (State.methodFound?_of_named hnamed hy).symm.trans q2
  cases hnamed.symm.trans q3
  have hselP : selectMethod e.platform s.vm cellB.cls mk = .method mk := by rw [Launch.admits_selectMethod X.admits]; exact q4
  obtain ⟨vm₁, X₁, hstep₁⟩ := X.invokevirtualNest hexec hown hlink hnamed hmethM hstM hkP hkPi hy (a := b) (cell := cellB) hcell
    (fun z h => by rw [h] at hobj; cases hobj) hselP hmethM habM hkP hkPi (g := g) hg (argsL := argsL) (rest := rest) (hlen _ hsigM) hstack hdg
  rcases hK m meth c ⟨T.setVm vm₁, locs, cells, slots⟩ { g with stack := rest } (.invokevirtual index) mk (Value.ref b :: argsL).toArray X₁ hg hsize hdg hW (X₁.named hnamed) (hpre vm₁ X₁.warmed) with ⟨v, B, X', hpost, hsteps⟩ | ⟨q, B, X', hpost, hsteps⟩
  · exact Or.inl ⟨v, vm₁, B, X₁.warmed, X', hpost, fun target h => hstep₁ _ fun acts => by rw [doInvoke_state]; exact hsteps.trans h⟩
  · exact Or.inr ⟨q, vm₁, B, X₁.warmed, X', hpost, hstep₁ _ fun acts => by rw [doInvoke_state]; exact hsteps⟩
theorem vx_callSN (X : Stand p l e R s m args below meth c T locs cells slots) (hexec : p.tables.exec = Jvm.exec) {own : String} {index : Nat} {host : String} {y : MethodName} {bytes : ByteArray} {maxL : Nat} {ret : Option FieldType}
    (hown : s.vm.findClass own = some m.cls) (hlink : (Cond.methodLinkNest own index y host).before args s = true) (hstat : (Cond.static y).before args s = true) (hinit : (Cond.initialized y.cls).before args s = true)
    (hcode : (Cond.code y bytes maxL ret).before args s = true) (hy : y.cls ≠ "java/lang/invoke/MethodHandle" ∧ y.cls ≠ "java/lang/invoke/VarHandle")
    {W : Nat} {Pre : Pt → Array Value → Prop} {Post : Pt → Array Value → Option Value → Pt → Prop} {PostX : Pt → Array Value → Addr → Pt → Prop} (hK : vx_Back l R p e below s args y 3 W Pre Post PostX)
    {g : JFrame} (hg : g.method = m) (hsize : g.locals.size = c.maxLocals) {argsL rest : List Value} (hlen : ∀ sig, parseMethodDescriptor y.desc = some sig → argsL.length = sig.parameters.length)
    (hstack : g.stack = argsL.reverse ++ rest) (hW : 2 * g.monitorRoom + (rest.map fun v => v.category).sum ≤ W) (hdg : decode c.code g.pc = .ok (.invokestatic index, 3))
    (hpre : ∀ vm₁, s.WarmedH vm₁ → Pre ⟨T.setVm vm₁, locs, cells, slots⟩ argsL.toArray) :
    (∃ (v : Option Value) (vm₁ : Vm) (B : Pt), s.WarmedH vm₁ ∧ Stand p l e R s m args below meth c B.U B.locs B.cells B.slots ∧ Post ⟨T.setVm vm₁, locs, cells, slots⟩ argsL.toArray v B ∧
      ∀ target, Steps p.tables e below (B.U.setTop { g with pc := g.pc + 3, stack := v.toList ++ rest }) target → Steps p.tables e below (T.setTop g) target) ∨
    (∃ (q : Addr) (vm₁ : Vm) (B : Pt), s.WarmedH vm₁ ∧ Stand p l e R s m args below meth c B.U B.locs B.cells B.slots ∧ PostX ⟨T.setVm vm₁, locs, cells, slots⟩ argsL.toArray q B ∧
      Steps p.tables e below (T.setTop g) ((B.U.setTop { g with stack := rest }).pushFrame (.throwing q))) := by
  obtain ⟨mk, hnamed⟩ := Cond.code_named hcode
  obtain ⟨methM, cM, hmethM, -, -, -, -, -, -, hsigM⟩ := Cond.code_spec hnamed hcode
  have hstatic : methM.isStatic = true := Cond.static_spec hnamed hmethM hstat
  obtain ⟨kP, hkP, -⟩ := className_of_methodNamed hnamed
  have hinitP : kP.init = .initialized := Cond.initialized_spec (findClass_of_methodNamed hnamed) hkP hinit
  obtain ⟨vm₁, X₁, hstep₁⟩ := X.invokestaticNest hexec hown hlink hnamed hmethM hstatic hkP hinitP hy (g := g) hg (argsL := argsL) (rest := rest) (hlen _ hsigM) hstack hdg
  rcases hK m meth c ⟨T.setVm vm₁, locs, cells, slots⟩ { g with stack := rest } (.invokestatic index) mk argsL.toArray X₁ hg hsize hdg hW (X₁.named hnamed) (hpre vm₁ X₁.warmed) with ⟨v, B, X', hpost, hsteps⟩ | ⟨q, B, X', hpost, hsteps⟩
  · exact Or.inl ⟨v, vm₁, B, X₁.warmed, X', hpost, fun target h => hstep₁ _ fun acts => by rw [doInvoke_state]; exact hsteps.trans h⟩
  · exact Or.inr ⟨q, vm₁, B, X₁.warmed, X', hpost, hstep₁ _ fun acts => by rw [doInvoke_state]; exact hsteps⟩
theorem vx_runVN {y : MethodName} {bytes cc : ByteArray} {maxL nL mc ms n index : Nat} {ret : Option FieldType} {ws : List Cond} {rm : Room} {Pc : Array Value → State → Prop} {Qc : Array Value → State → Outcome → State → Prop} {XC : String → Addr → State → State → Prop} {free : Addr → Prop} {Ts : List Cond} {own C host : String} {b : Addr} {As rest : List Value} {g : JFrame}
    (S : CallFix p m c cc nL s args Ts own) (hM : vx_Met l y ws rm Pc Qc XC mc ms free) (cw : va_CN R s args own index y host bytes maxL ret ws rm mc ms n ∧ (Cond.instanceMethod y).before args s = true ∧ (Cond.selects C y y).before args s = true) (hp : PreV s H C b Pc As)
    (hg : g.method = m) (hn : As.length = n) (hsize : g.locals.size = nL) (hstack : g.stack = As.reverse ++ .ref b :: rest) (hW : 2 * g.monitorRoom + (rest.map fun v => v.category).sum ≤ 8) (hdg : decode cc g.pc = .ok (.invokevirtual index, 3)) (hf : cells + mc ≤ R.cells ∧ slots + ms ≤ R.slots) :
    vx_Run p l e R s m args below meth c H locs cells slots mc ms g rest (Qc (Value.ref b :: As).toArray) XC free := by
  obtain ⟨⟨⟨hrc, hrs, hfr, hlo, hws, hcw⟩, hcode, hini, hy, hlen, hl⟩, hx1, hx2⟩ := cw
  have hK : vx_Back l R p e below s args y 3 8 (PreOf R mc ms Pc) (PostOf Qc mc ms free) (vx_Post XC mc ms free) := vx_back (bytes := bytes) (maxL := maxL) (ret := ret) hM hp.1 hrc hrs hfr hlo hws hcw (fun a' U hW => word_at hW (Or.inl (by first | rfl | simp [Cond.onTables, Cond.keeps, Cond.steady])) hini)
  obtain ⟨hx, hb, hml, ho, -⟩ := S
  obtain ⟨-, ⟨cellB, hcB, hoB, hclB⟩, hPc⟩ := hp
  intro T hT X
  rcases vx_callVN X hx (C := C) (bytes := bytes) (maxL := maxL) (ret := ret) ho hl hx1 hx2 hcode hy hK (by rw [hT]; exact hcB) hoB hclB hg (hsize.trans hml.symm) (argsL := As) (rest := rest) (fun sig h => hn.trans (hlen sig h)) hstack hW (by rw [hb]; exact hdg)
    (fun vm₁ hW₁ => ⟨hf.1, hf.2, hPc (T.setVm vm₁) hT hW₁⟩) with ⟨v, vm₁, ⟨U', l2, c2, s2⟩, hW₁, X', ⟨g', mk, t, L, e1, e2, hq, h1, hL, h2, h3⟩, st⟩ | ⟨q, vm₁, ⟨U', l2, c2, s2⟩, hW₁, X', ⟨g', mk, t, L, E, ce, e1, e2, hq, hce, hcv, hcl, h1, hL, h2, h3⟩, st⟩
  · dsimp only [Pt.U, Pt.locs, Pt.cells, Pt.slots] at X' e1 e2 h1 h2 h3 st
    subst h1; subst h2; subst h3
    exact Or.inl ⟨v, (T.setVm vm₁).calling g' mk (Value.ref b :: As).toArray, t, U', L, hT, X', hL, e1, e2, hq, st⟩
  · dsimp only [Pt.U, Pt.locs, Pt.cells, Pt.slots] at X' e1 e2 h1 h2 h3 st hcl
    subst h1; subst h2; subst h3
    exact Or.inr ⟨q, (T.setVm vm₁).calling g' mk (Value.ref b :: As).toArray, t, U', L, E, ce, hT, X', hL, e1, e2, hq, hce, hcv, vx_cls hW₁ hcl, st⟩
theorem vx_runSN {y : MethodName} {bytes cc : ByteArray} {maxL nL mc ms n index : Nat} {ret : Option FieldType} {ws : List Cond} {rm : Room} {Pc : Array Value → State → Prop} {Qc : Array Value → State → Outcome → State → Prop} {XC : String → Addr → State → State → Prop} {free : Addr → Prop} {Ts : List Cond} {own host : String} {As rest : List Value} {g : JFrame}
    (S : CallFix p m c cc nL s args Ts own) (hM : vx_Met l y ws rm Pc Qc XC mc ms free) (cw : va_CN R s args own index y host bytes maxL ret ws rm mc ms n ∧ (Cond.static y).before args s = true ∧ True) (hp : PreS s H Pc As)
    (hg : g.method = m) (hn : As.length = n) (hsize : g.locals.size = nL) (hstack : g.stack = As.reverse ++ rest) (hW : 2 * g.monitorRoom + (rest.map fun v => v.category).sum ≤ 8) (hdg : decode cc g.pc = .ok (.invokestatic index, 3)) (hf : cells + mc ≤ R.cells ∧ slots + ms ≤ R.slots) :
    vx_Run p l e R s m args below meth c H locs cells slots mc ms g rest (Qc As.toArray) XC free := by
  obtain ⟨⟨⟨hrc, hrs, hfr, hlo, hws, hcw⟩, hcode, hini, hy, hlen, hl⟩, hx1, hx2⟩ := cw
  have hK : vx_Back l R p e below s args y 3 8 (PreOf R mc ms Pc) (PostOf Qc mc ms free) (vx_Post XC mc ms free) := vx_back (bytes := bytes) (maxL := maxL) (ret := ret) hM hp.1 hrc hrs hfr hlo hws hcw (fun a' U hW => word_at hW (Or.inl (by first | rfl | simp [Cond.onTables, Cond.keeps, Cond.steady])) hini)
  obtain ⟨hx, hb, hml, ho, -⟩ := S
  have hPc := hp.2
  intro T hT X
  rcases vx_callSN X hx (bytes := bytes) (maxL := maxL) (ret := ret) ho hl hx1 hini hcode hy hK hg (hsize.trans hml.symm) (argsL := As) (rest := rest) (fun sig h => hn.trans (hlen sig h)) hstack hW (by rw [hb]; exact hdg)
    (fun vm₁ hW₁ => ⟨hf.1, hf.2, hPc (T.setVm vm₁) hT hW₁⟩) with ⟨v, vm₁, ⟨U', l2, c2, s2⟩, hW₁, X', ⟨g', mk, t, L, e1, e2, hq, h1, hL, h2, h3⟩, st⟩ | ⟨q, vm₁, ⟨U', l2, c2, s2⟩, hW₁, X', ⟨g', mk, t, L, E, ce, e1, e2, hq, hce, hcv, hcl, h1, hL, h2, h3⟩, st⟩
  · dsimp only [Pt.U, Pt.locs, Pt.cells, Pt.slots] at X' e1 e2 h1 h2 h3 st
    subst h1; subst h2; subst h3
    exact Or.inl ⟨v, (T.setVm vm₁).calling g' mk As.toArray, t, U', L, hT, X', hL, e1, e2, hq, st⟩
  · dsimp only [Pt.U, Pt.locs, Pt.cells, Pt.slots] at X' e1 e2 h1 h2 h3 st hcl
    subst h1; subst h2; subst h3
    exact Or.inr ⟨q, (T.setVm vm₁).calling g' mk As.toArray, t, U', L, E, ce, hT, X', hL, e1, e2, hq, hce, hcv, vx_cls hW₁ hcl, st⟩
end
/-! ===== END ===== -/
/-! ===== BEGIN calls by an interface of methods that may throw (vx_callIF, vx_runF follow va_callIF, va_runF of this kit) ===== -/
section
variable {p : Program} {l : Launch} {e : Env} {R : Room} {s : State} {m : MethodId} {args : Array Value} {below : List Frame} {meth : Method} {c : Code} {H : Heap} {locs : List Loc} {cells slots : Nat} {Q : State → Prop}
variable {mc ms : Nat} {free : Addr → Prop} {A0 A1 : Nat → Prop} {H0 : Heap} {a : Array Value} {pc : Nat} {ls : Array Slot} {st0 rest : List Value}
def vx_Run5 (p : Program) (l : Launch) (e : Env) (R : Room) (s : State) (m : MethodId) (args : Array Value) (below : List Frame) (meth : Method) (c : Code) (H : Heap) (locs : List Loc) (cells slots mc ms : Nat) (g : JFrame) (rest : List Value) (Qa : State → Outcome → State → Prop) (XC : String → Addr → State → State → Prop) (free : Addr → Prop) : Prop :=
  ∀ T : State, T.heap = H → Stand p l e R s m args below meth c T locs cells slots →
    (∃ (v : Option Value) (st₀ t T' : State) (L : List Loc), st₀.heap = H ∧ Stand p l e R s m args below meth c T' (locs ++ L) (cells + mc) (slots + ms) ∧ (∀ q ∈ L, free q.base) ∧ T'.heap = t.heap ∧ T'.vm = t.vm ∧ Qa st₀ (.returned v) t ∧
      Goes p e below T g T' { g with pc := g.pc + 5, stack := v.toList ++ rest }) ∨
    (∃ (q : Addr) (st₀ t T' : State) (L : List Loc) (E : String) (ce : Cell), st₀.heap = H ∧ Stand p l e R s m args below meth c T' (locs ++ L) (cells + mc) (slots + ms) ∧ (∀ z ∈ L, free z.base) ∧ T'.heap = t.heap ∧ T'.vm = t.vm ∧ XC E q st₀ t ∧ t.heap[q]? = some ce ∧ ce.vm = .none ∧ s.vm.findClass E = some ce.cls ∧
      Steps p.tables e below (T.setTop g) ((T'.setTop { g with stack := rest }).pushFrame (.throwing q)))
theorem vx_callIF {T : State} (X : Stand p l e R s m args below meth c T locs cells slots) (hexec : p.tables.exec = Jvm.exec) {own C : String} {index count : Nat} {x y : MethodName} {bytes : ByteArray} {maxL : Nat} {ret : Option FieldType}
    (hown : s.vm.findClass own = some m.cls) (hlink : (Cond.methodLink own index x).before args s = true) (hdecl : (Cond.declares x).before args s = true) (hface : (Cond.interfaceMethod x.cls x.cls x.name x.desc).before args s = true)
    (hsel : (Cond.selects C x y).before args s = true) (hinst : (Cond.instanceMethod y).before args s = true) (hpub : (Cond.publicMethod y).before args s = true) (hunh : (Cond.unhidden C x.name x.desc).before args s = true)
    (hcast : (Cond.castable C x.cls).before args s = true) (hcode : (Cond.code y bytes maxL ret).before args s = true) (hx : x.cls ≠ "java/lang/invoke/MethodHandle" ∧ x.cls ≠ "java/lang/invoke/VarHandle")
    {W9 : Nat} {Pre : Pt → Array Value → Prop} {Post : Pt → Array Value → Option Value → Pt → Prop} {PostX : Pt → Array Value → Addr → Pt → Prop} (hK : vx_Back l R p e below s args y 5 W9 Pre Post PostX)
    {b : Addr} {cellB : Cell} {kB : Class} (hcell : T.heap[b]? = some cellB) (hobj : cellB.vm.isStatics = false) (hcls : s.vm.findClass C = some cellB.cls) (hkB : s.vm.classes[cellB.cls]? = some kB)
    {g : JFrame} (hg : g.method = m) (hsize : g.locals.size = c.maxLocals) {argsL rest : List Value} (hlen : ∀ sig, parseMethodDescriptor x.desc = some sig → argsL.length = sig.parameters.length)
    (hstack : g.stack = argsL.reverse ++ .ref b :: rest) (hW : 2 * g.monitorRoom + (rest.map fun v => v.category).sum ≤ W9) (hdg : decode c.code g.pc = .ok (.invokeinterface index count, 5))
    (hpre : ∀ vm₁, s.WarmedH vm₁ → Pre ⟨T.setVm vm₁, locs, cells, slots⟩ (Value.ref b :: argsL).toArray) :
    (∃ (v : Option Value) (vm₁ : Vm) (B : Pt), s.WarmedH vm₁ ∧ Stand p l e R s m args below meth c B.U B.locs B.cells B.slots ∧ Post ⟨T.setVm vm₁, locs, cells, slots⟩ (Value.ref b :: argsL).toArray v B ∧
      ∀ target, Steps p.tables e below (B.U.setTop { g with pc := g.pc + 5, stack := v.toList ++ rest }) target → Steps p.tables e below (T.setTop g) target) ∨
    (∃ (q : Addr) (vm₁ : Vm) (B : Pt), s.WarmedH vm₁ ∧ Stand p l e R s m args below meth c B.U B.locs B.cells B.slots ∧ PostX ⟨T.setVm vm₁, locs, cells, slots⟩ (Value.ref b :: argsL).toArray q B ∧
      Steps p.tables e below (T.setTop g) ((B.U.setTop { g with stack := rest }).pushFrame (.throwing q))) := by
  obtain ⟨r0, r, hn, hrm, hstR, hsigR⟩ := Cond.declares_spec hdecl
  obtain ⟨cL, kL, r1, hcL, hkL, hiL, hfoundL, hn1⟩ := Cond.interfaceMethod_spec hface
  cases hn.symm.trans hn1
  have hr0cls : r0.cls = cL := Option.some.inj ((findClass_of_methodNamed hn).symm.trans hcL)
  obtain ⟨hnameR, hdescR⟩ := name_of_methodNamed hn hrm
  obtain ⟨mk, methM, hnamed, hmethM, -, habM⟩ := Cond.instanceMethod_spec hinst
  obtain ⟨c2, r2, m2, q1, q2, q3, q4, -⟩ := Cond.selects_spec hsel
  cases hcls.symm.trans q1
  cases hfoundL.symm.trans q2
  cases hnamed.symm.trans q3
  have hselP : selectMethod e.platform s.vm cellB.cls r0 = .method mk := by rw [Launch.admits_selectMethod X.admits]; exact q4
  have hpubM : hasFlag methM.accessFlags Acc.public_ = true := Cond.publicMethod_spec hnamed hmethM hpub
  have hway : ((cellB.cls :: s.vm.superclasses cellB.cls).any fun k => (declaredIn s.vm r.name r.desc k).any fun (_, z) => z.isPrivate || z.isStatic) = false := by
    rw [hnameR, hdescR]; exact Cond.unhidden_spec hcls hunh
  obtain ⟨c3, t3, w1, w2, w3⟩ := Cond.castable_spec hcast
  cases hcls.symm.trans w1
  cases hcL.symm.trans w2
  obtain ⟨vm₁, X₁, hstep₁⟩ := X.invokeinterface hexec hown hlink hn hrm hstR (by rw [hr0cls]; exact hkL) hiL hx (a := b) (cell := cellB) (kcell := kB) hcell
    (fun z h => by rw [h] at hobj; cases hobj) hkB (by rw [hr0cls]; exact w3) hselP hmethM hway hpubM habM (g := g) hg (argsL := argsL) (rest := rest) (hlen _ hsigR) hstack hdg
  rcases hK m meth c ⟨T.setVm vm₁, locs, cells, slots⟩ { g with stack := rest } (.invokeinterface index count) mk (Value.ref b :: argsL).toArray X₁ hg hsize hdg hW (X₁.named hnamed) (hpre vm₁ X₁.warmed) with ⟨v, B, X', hpost, hsteps⟩ | ⟨q, B, X', hpost, hsteps⟩
  · exact Or.inl ⟨v, vm₁, B, X₁.warmed, X', hpost, fun target h => hstep₁ _ fun acts => by rw [doInvoke_state]; exact hsteps.trans h⟩
  · exact Or.inr ⟨q, vm₁, B, X₁.warmed, X', hpost, hstep₁ _ fun acts => by rw [doInvoke_state]; exact hsteps⟩
theorem vx_runF {x y : MethodName} {bytes cc : ByteArray} {maxL nL mc ms n index count : Nat} {ret : Option FieldType} {ws : List Cond} {rm : Room} {Pc : Array Value → State → Prop} {Qc : Array Value → State → Outcome → State → Prop} {XC : String → Addr → State → State → Prop} {free : Addr → Prop} {Ts : List Cond} {own C : String} {cC : ClassId} {b : Addr} {As rest : List Value} {g : JFrame}
    (hat : ClassAt s C cC) (S : CallFix p m c cc nL s args Ts own) (hM : vx_Met l y ws rm Pc Qc XC mc ms free) (cw : va_CI R s args own C index x y bytes maxL ret ws rm mc ms n) (hp : PreV s H C b Pc As)
    (hg : g.method = m) (hn : As.length = n) (hsize : g.locals.size = nL) (hstack : g.stack = As.reverse ++ .ref b :: rest) (hW : 2 * g.monitorRoom + (rest.map fun v => v.category).sum ≤ 8) (hdg : decode cc g.pc = .ok (.invokeinterface index count, 5)) (hf : cells + mc ≤ R.cells ∧ slots + ms ≤ R.slots) :
    vx_Run5 p l e R s m args below meth c H locs cells slots mc ms g rest (Qc (Value.ref b :: As).toArray) XC free := by
  obtain ⟨hrc, hrs, hfr, hlo, hws, hcw⟩ := cw.back
  have hini := cw.init
  have hK : vx_Back l R p e below s args y 5 8 (PreOf R mc ms Pc) (PostOf Qc mc ms free) (vx_Post XC mc ms free) := vx_back (bytes := bytes) (maxL := maxL) (ret := ret) hM hp.1 hrc hrs hfr hlo hws hcw (fun a' U hW => word_at hW (Or.inl (by first | rfl | simp [Cond.onTables, Cond.keeps, Cond.steady])) hini)
  obtain ⟨hx, hb, hml, ho, -⟩ := S
  obtain ⟨-, ⟨cellB, hcB, hoB, hclB⟩, hPc⟩ := hp
  obtain ⟨hfc, kB, hkB, -⟩ := hat
  cases hfc.symm.trans hclB
  intro T hT X
  rcases vx_callIF X hx (C := C) (bytes := bytes) (maxL := maxL) (ret := ret) ho cw.link cw.decl cw.face cw.sel cw.inst cw.pub cw.unh cw.cast cw.code cw.notMH hK (by rw [hT]; exact hcB) hoB hclB hkB hg (hsize.trans hml.symm) (argsL := As) (rest := rest) (fun sig h => hn.trans (cw.len sig h)) hstack hW (by rw [hb]; exact hdg)
    (fun vm₁ hW₁ => ⟨hf.1, hf.2, hPc (T.setVm vm₁) hT hW₁⟩) with ⟨v, vm₁, ⟨U', l2, c2, s2⟩, hW₁, X', ⟨g', mk, t, L, e1, e2, hq, h1, hL, h2, h3⟩, st⟩ | ⟨q, vm₁, ⟨U', l2, c2, s2⟩, hW₁, X', ⟨g', mk, t, L, E, ce, e1, e2, hq, hce, hcv, hcl, h1, hL, h2, h3⟩, st⟩
  · dsimp only [Pt.U, Pt.locs, Pt.cells, Pt.slots] at X' e1 e2 h1 h2 h3 st
    subst h1; subst h2; subst h3
    exact Or.inl ⟨v, (T.setVm vm₁).calling g' mk (Value.ref b :: As).toArray, t, U', L, hT, X', hL, e1, e2, hq, st⟩
  · dsimp only [Pt.U, Pt.locs, Pt.cells, Pt.slots] at X' e1 e2 h1 h2 h3 st hcl
    subst h1; subst h2; subst h3
    exact Or.inr ⟨q, (T.setVm vm₁).calling g' mk (Value.ref b :: As).toArray, t, U', L, E, ce, hT, X', hL, e1, e2, hq, hce, hcv, vx_cls hW₁ hcl, st⟩
theorem vx_callFv {S SX : Type} {post : S → Prop} {px : SX → Prop} {B : S → State → Prop} {BX : String → Addr → SX → State → Prop} {AX : Nat → Prop} (hr : vx_Run5 p l e R s m args below meth c H locs cells slots mc ms (F0 m pc ls st0) rest (va_Qv post B A1 a) (vx_X px BX AX) free) (hS : va_S A0 H0 H locs) (hA : ∀ q, q < H.size → A1 q → A0 q) (hf : ∀ q, free q → A0 q) (hAX : ∀ q, q < H.size → AX q → A0 q)
    (kx : ∀ (E : String) (ce : Cell) (q9 : Addr) (u : SX) (t : State) (H1 : Heap) (locs1 : List Loc), t.heap = H1 → s.vm.Alike t.vm → px u → BX E q9 u t → H.size ≤ H1.size → (∀ q : Nat, q < H.size → ¬ AX q → H1[q]? = H[q]?) → va_S A0 H0 H1 locs1 → H1[q9]? = some ce → ce.vm = .none → s.vm.findClass E = some ce.cls → vx_W p l e R s m args below meth c H1 locs1 (cells + mc) (slots + ms) Q (F0 m pc ls rest) q9)
    (kk : ∀ (u : S) (t : State) (H1 : Heap) (locs1 : List Loc), t.heap = H1 → s.vm.Alike t.vm → post u → B u t → H.size ≤ H1.size → (∀ q : Nat, q < H.size → ¬ A1 q → H1[q]? = H[q]?) → va_S A0 H0 H1 locs1 → W p l e R s m args below meth c H1 locs1 (cells + mc) (slots + ms) Q (F0 m (pc + 5) ls (rest))) : W p l e R s m args below meth c H locs cells slots Q (F0 m pc ls st0) := by
  intro T hT X
  rcases hr T hT X with ⟨v, st₀, t, T', L, h0, X', hL, e1, e2, ⟨⟨u, hv, hp, hb⟩, hF⟩, st⟩ | ⟨q, st₀, t, T', L, E, ce, h0, X', hL, e1, e2, ⟨u, hp, hb, hF⟩, hce, hcv, hcl, st⟩
  · cases hv
    obtain ⟨k1, k2, k3⟩ := vx_keep h0 e1 hS hA hf hL hF
    obtain ⟨t2, a1, b1⟩ := kk u t T'.heap (locs ++ L) e1.symm (by rw [← e2]; exact X'.warmed.alike) hp hb k1 k2 k3 T' rfl X'
    exact ⟨t2, st t2 a1, b1⟩
  · obtain ⟨k1, k2, k3⟩ := vx_keep h0 e1 hS hAX hf hL hF
    obtain ⟨t2, a1, b1⟩ := kx E ce q u t T'.heap (locs ++ L) e1.symm (by rw [← e2]; exact X'.warmed.alike) hp hb k1 k2 k3 (by rw [e1]; exact hce) hcv hcl T' rfl X'
    exact ⟨t2, st.trans a1, b1⟩
theorem vx_callFi {S SX : Type} {post : Int32 → S → Prop} {px : SX → Prop} {B : S → State → Prop} {BX : String → Addr → SX → State → Prop} {AX : Nat → Prop} (hr : vx_Run5 p l e R s m args below meth c H locs cells slots mc ms (F0 m pc ls st0) rest (va_Qi post B A1 a) (vx_X px BX AX) free) (hS : va_S A0 H0 H locs) (hA : ∀ q, q < H.size → A1 q → A0 q) (hf : ∀ q, free q → A0 q) (hAX : ∀ q, q < H.size → AX q → A0 q)
    (kx : ∀ (E : String) (ce : Cell) (q9 : Addr) (u : SX) (t : State) (H1 : Heap) (locs1 : List Loc), t.heap = H1 → s.vm.Alike t.vm → px u → BX E q9 u t → H.size ≤ H1.size → (∀ q : Nat, q < H.size → ¬ AX q → H1[q]? = H[q]?) → va_S A0 H0 H1 locs1 → H1[q9]? = some ce → ce.vm = .none → s.vm.findClass E = some ce.cls → vx_W p l e R s m args below meth c H1 locs1 (cells + mc) (slots + ms) Q (F0 m pc ls rest) q9)
    (kk : ∀ (r : Int32) (u : S) (t : State) (H1 : Heap) (locs1 : List Loc), t.heap = H1 → s.vm.Alike t.vm → post r u → B u t → H.size ≤ H1.size → (∀ q : Nat, q < H.size → ¬ A1 q → H1[q]? = H[q]?) → va_S A0 H0 H1 locs1 → W p l e R s m args below meth c H1 locs1 (cells + mc) (slots + ms) Q (F0 m (pc + 5) ls (.int r :: rest))) : W p l e R s m args below meth c H locs cells slots Q (F0 m pc ls st0) := by
  intro T hT X
  rcases hr T hT X with ⟨v, st₀, t, T', L, h0, X', hL, e1, e2, ⟨⟨r, u, hv, hp, hb⟩, hF⟩, st⟩ | ⟨q, st₀, t, T', L, E, ce, h0, X', hL, e1, e2, ⟨u, hp, hb, hF⟩, hce, hcv, hcl, st⟩
  · cases hv
    obtain ⟨k1, k2, k3⟩ := vx_keep h0 e1 hS hA hf hL hF
    obtain ⟨t2, a1, b1⟩ := kk r u t T'.heap (locs ++ L) e1.symm (by rw [← e2]; exact X'.warmed.alike) hp hb k1 k2 k3 T' rfl X'
    exact ⟨t2, st t2 a1, b1⟩
  · obtain ⟨k1, k2, k3⟩ := vx_keep h0 e1 hS hAX hf hL hF
    obtain ⟨t2, a1, b1⟩ := kx E ce q u t T'.heap (locs ++ L) e1.symm (by rw [← e2]; exact X'.warmed.alike) hp hb k1 k2 k3 (by rw [e1]; exact hce) hcv hcl T' rfl X'
    exact ⟨t2, st.trans a1, b1⟩
theorem vx_callFl {S SX : Type} {post : Int64 → S → Prop} {px : SX → Prop} {B : S → State → Prop} {BX : String → Addr → SX → State → Prop} {AX : Nat → Prop} (hr : vx_Run5 p l e R s m args below meth c H locs cells slots mc ms (F0 m pc ls st0) rest (va_Ql post B A1 a) (vx_X px BX AX) free) (hS : va_S A0 H0 H locs) (hA : ∀ q, q < H.size → A1 q → A0 q) (hf : ∀ q, free q → A0 q) (hAX : ∀ q, q < H.size → AX q → A0 q)
    (kx : ∀ (E : String) (ce : Cell) (q9 : Addr) (u : SX) (t : State) (H1 : Heap) (locs1 : List Loc), t.heap = H1 → s.vm.Alike t.vm → px u → BX E q9 u t → H.size ≤ H1.size → (∀ q : Nat, q < H.size → ¬ AX q → H1[q]? = H[q]?) → va_S A0 H0 H1 locs1 → H1[q9]? = some ce → ce.vm = .none → s.vm.findClass E = some ce.cls → vx_W p l e R s m args below meth c H1 locs1 (cells + mc) (slots + ms) Q (F0 m pc ls rest) q9)
    (kk : ∀ (r : Int64) (u : S) (t : State) (H1 : Heap) (locs1 : List Loc), t.heap = H1 → s.vm.Alike t.vm → post r u → B u t → H.size ≤ H1.size → (∀ q : Nat, q < H.size → ¬ A1 q → H1[q]? = H[q]?) → va_S A0 H0 H1 locs1 → W p l e R s m args below meth c H1 locs1 (cells + mc) (slots + ms) Q (F0 m (pc + 5) ls (.long r :: rest))) : W p l e R s m args below meth c H locs cells slots Q (F0 m pc ls st0) := by
  intro T hT X
  rcases hr T hT X with ⟨v, st₀, t, T', L, h0, X', hL, e1, e2, ⟨⟨r, u, hv, hp, hb⟩, hF⟩, st⟩ | ⟨q, st₀, t, T', L, E, ce, h0, X', hL, e1, e2, ⟨u, hp, hb, hF⟩, hce, hcv, hcl, st⟩
  · cases hv
    obtain ⟨k1, k2, k3⟩ := vx_keep h0 e1 hS hA hf hL hF
    obtain ⟨t2, a1, b1⟩ := kk r u t T'.heap (locs ++ L) e1.symm (by rw [← e2]; exact X'.warmed.alike) hp hb k1 k2 k3 T' rfl X'
    exact ⟨t2, st t2 a1, b1⟩
  · obtain ⟨k1, k2, k3⟩ := vx_keep h0 e1 hS hAX hf hL hF
    obtain ⟨t2, a1, b1⟩ := kx E ce q u t T'.heap (locs ++ L) e1.symm (by rw [← e2]; exact X'.warmed.alike) hp hb k1 k2 k3 (by rw [e1]; exact hce) hcv hcl T' rfl X'
    exact ⟨t2, st.trans a1, b1⟩
theorem vx_callFf {S SX : Type} {post : UInt32 → S → Prop} {px : SX → Prop} {B : S → State → Prop} {BX : String → Addr → SX → State → Prop} {AX : Nat → Prop} (hr : vx_Run5 p l e R s m args below meth c H locs cells slots mc ms (F0 m pc ls st0) rest (va_Qf post B A1 a) (vx_X px BX AX) free) (hS : va_S A0 H0 H locs) (hA : ∀ q, q < H.size → A1 q → A0 q) (hf : ∀ q, free q → A0 q) (hAX : ∀ q, q < H.size → AX q → A0 q)
    (kx : ∀ (E : String) (ce : Cell) (q9 : Addr) (u : SX) (t : State) (H1 : Heap) (locs1 : List Loc), t.heap = H1 → s.vm.Alike t.vm → px u → BX E q9 u t → H.size ≤ H1.size → (∀ q : Nat, q < H.size → ¬ AX q → H1[q]? = H[q]?) → va_S A0 H0 H1 locs1 → H1[q9]? = some ce → ce.vm = .none → s.vm.findClass E = some ce.cls → vx_W p l e R s m args below meth c H1 locs1 (cells + mc) (slots + ms) Q (F0 m pc ls rest) q9)
    (kk : ∀ (r : UInt32) (u : S) (t : State) (H1 : Heap) (locs1 : List Loc), t.heap = H1 → s.vm.Alike t.vm → post r u → B u t → H.size ≤ H1.size → (∀ q : Nat, q < H.size → ¬ A1 q → H1[q]? = H[q]?) → va_S A0 H0 H1 locs1 → W p l e R s m args below meth c H1 locs1 (cells + mc) (slots + ms) Q (F0 m (pc + 5) ls (.float r :: rest))) : W p l e R s m args below meth c H locs cells slots Q (F0 m pc ls st0) := by
  intro T hT X
  rcases hr T hT X with ⟨v, st₀, t, T', L, h0, X', hL, e1, e2, ⟨⟨r, u, hv, hp, hb⟩, hF⟩, st⟩ | ⟨q, st₀, t, T', L, E, ce, h0, X', hL, e1, e2, ⟨u, hp, hb, hF⟩, hce, hcv, hcl, st⟩
  · cases hv
    obtain ⟨k1, k2, k3⟩ := vx_keep h0 e1 hS hA hf hL hF
    obtain ⟨t2, a1, b1⟩ := kk r u t T'.heap (locs ++ L) e1.symm (by rw [← e2]; exact X'.warmed.alike) hp hb k1 k2 k3 T' rfl X'
    exact ⟨t2, st t2 a1, b1⟩
  · obtain ⟨k1, k2, k3⟩ := vx_keep h0 e1 hS hAX hf hL hF
    obtain ⟨t2, a1, b1⟩ := kx E ce q u t T'.heap (locs ++ L) e1.symm (by rw [← e2]; exact X'.warmed.alike) hp hb k1 k2 k3 (by rw [e1]; exact hce) hcv hcl T' rfl X'
    exact ⟨t2, st.trans a1, b1⟩
theorem vx_callFd {S SX : Type} {post : UInt64 → S → Prop} {px : SX → Prop} {B : S → State → Prop} {BX : String → Addr → SX → State → Prop} {AX : Nat → Prop} (hr : vx_Run5 p l e R s m args below meth c H locs cells slots mc ms (F0 m pc ls st0) rest (va_Qd post B A1 a) (vx_X px BX AX) free) (hS : va_S A0 H0 H locs) (hA : ∀ q, q < H.size → A1 q → A0 q) (hf : ∀ q, free q → A0 q) (hAX : ∀ q, q < H.size → AX q → A0 q)
    (kx : ∀ (E : String) (ce : Cell) (q9 : Addr) (u : SX) (t : State) (H1 : Heap) (locs1 : List Loc), t.heap = H1 → s.vm.Alike t.vm → px u → BX E q9 u t → H.size ≤ H1.size → (∀ q : Nat, q < H.size → ¬ AX q → H1[q]? = H[q]?) → va_S A0 H0 H1 locs1 → H1[q9]? = some ce → ce.vm = .none → s.vm.findClass E = some ce.cls → vx_W p l e R s m args below meth c H1 locs1 (cells + mc) (slots + ms) Q (F0 m pc ls rest) q9)
    (kk : ∀ (r : UInt64) (u : S) (t : State) (H1 : Heap) (locs1 : List Loc), t.heap = H1 → s.vm.Alike t.vm → post r u → B u t → H.size ≤ H1.size → (∀ q : Nat, q < H.size → ¬ A1 q → H1[q]? = H[q]?) → va_S A0 H0 H1 locs1 → W p l e R s m args below meth c H1 locs1 (cells + mc) (slots + ms) Q (F0 m (pc + 5) ls (.double r :: rest))) : W p l e R s m args below meth c H locs cells slots Q (F0 m pc ls st0) := by
  intro T hT X
  rcases hr T hT X with ⟨v, st₀, t, T', L, h0, X', hL, e1, e2, ⟨⟨r, u, hv, hp, hb⟩, hF⟩, st⟩ | ⟨q, st₀, t, T', L, E, ce, h0, X', hL, e1, e2, ⟨u, hp, hb, hF⟩, hce, hcv, hcl, st⟩
  · cases hv
    obtain ⟨k1, k2, k3⟩ := vx_keep h0 e1 hS hA hf hL hF
    obtain ⟨t2, a1, b1⟩ := kk r u t T'.heap (locs ++ L) e1.symm (by rw [← e2]; exact X'.warmed.alike) hp hb k1 k2 k3 T' rfl X'
    exact ⟨t2, st t2 a1, b1⟩
  · obtain ⟨k1, k2, k3⟩ := vx_keep h0 e1 hS hAX hf hL hF
    obtain ⟨t2, a1, b1⟩ := kx E ce q u t T'.heap (locs ++ L) e1.symm (by rw [← e2]; exact X'.warmed.alike) hp hb k1 k2 k3 (by rw [e1]; exact hce) hcv hcl T' rfl X'
    exact ⟨t2, st.trans a1, b1⟩
end
/-! ===== END ===== -/
/-! ===== BEGIN by an interface, a method with a table of its own that may throw (follows va_callIFW, va_runFW) ===== -/
section
variable {p : Program} {l : Launch} {e : Env} {R : Room} {s : State} {m : MethodId} {args : Array Value} {below : List Frame} {meth : Method} {c : Code} {H : Heap} {locs : List Loc} {cells slots : Nat}
theorem vx_callIFW {T : State} (X : Stand p l e R s m args below meth c T locs cells slots) (hexec : p.tables.exec = Jvm.exec) {own C : String} {index count : Nat} {x y : MethodName} {bytes : ByteArray} {maxL : Nat} {ret : Option FieldType} {hh : List (Nat × Nat × Nat × Nat)}
    (hown : s.vm.findClass own = some m.cls) (hlink : (Cond.methodLink own index x).before args s = true) (hdecl : (Cond.declares x).before args s = true) (hface : (Cond.interfaceMethod x.cls x.cls x.name x.desc).before args s = true)
    (hsel : (Cond.selects C x y).before args s = true) (hinst : (Cond.instanceMethod y).before args s = true) (hpub : (Cond.publicMethod y).before args s = true) (hunh : (Cond.unhidden C x.name x.desc).before args s = true)
    (hcast : (Cond.castable C x.cls).before args s = true) (hcode : (Cond.codeWith y bytes maxL ret hh).before args s = true) (hx : x.cls ≠ "java/lang/invoke/MethodHandle" ∧ x.cls ≠ "java/lang/invoke/VarHandle")
    {W : Nat} {Pre : Pt → Array Value → Prop} {Post : Pt → Array Value → Option Value → Pt → Prop} {PostX : Pt → Array Value → Addr → Pt → Prop} (hK : vx_Back l R p e below s args y 5 W Pre Post PostX)
    {b : Addr} {cellB : Cell} {kB : Class} (hcell : T.heap[b]? = some cellB) (hobj : cellB.vm.isStatics = false) (hcls : s.vm.findClass C = some cellB.cls) (hkB : s.vm.classes[cellB.cls]? = some kB)
    {g : JFrame} (hg : g.method = m) (hsize : g.locals.size = c.maxLocals) {argsL rest : List Value} (hlen : ∀ sig, parseMethodDescriptor x.desc = some sig → argsL.length = sig.parameters.length)
    (hstack : g.stack = argsL.reverse ++ .ref b :: rest) (hW : 2 * g.monitorRoom + (rest.map fun v => v.category).sum ≤ W) (hdg : decode c.code g.pc = .ok (.invokeinterface index count, 5))
    (hpre : ∀ vm₁, s.WarmedH vm₁ → Pre ⟨T.setVm vm₁, locs, cells, slots⟩ (Value.ref b :: argsL).toArray) :
    (∃ (v : Option Value) (vm₁ : Vm) (B : Pt), s.WarmedH vm₁ ∧ Stand p l e R s m args below meth c B.U B.locs B.cells B.slots ∧ Post ⟨T.setVm vm₁, locs, cells, slots⟩ (Value.ref b :: argsL).toArray v B ∧
      ∀ target, Steps p.tables e below (B.U.setTop { g with pc := g.pc + 5, stack := v.toList ++ rest }) target → Steps p.tables e below (T.setTop g) target) ∨
    (∃ (q : Addr) (vm₁ : Vm) (B : Pt), s.WarmedH vm₁ ∧ Stand p l e R s m args below meth c B.U B.locs B.cells B.slots ∧ PostX ⟨T.setVm vm₁, locs, cells, slots⟩ (Value.ref b :: argsL).toArray q B ∧
      Steps p.tables e below (T.setTop g) ((B.U.setTop { g with stack := rest }).pushFrame (.throwing q))) := by
  obtain ⟨r0, r, hn, hrm, hstR, hsigR⟩ := Cond.declares_spec hdecl
  obtain ⟨cL, kL, r1, hcL, hkL, hiL, hfoundL, hn1⟩ := Cond.interfaceMethod_spec hface
  cases hn.symm.trans hn1
  have hr0cls : r0.cls = cL := Option.some.inj ((findClass_of_methodNamed hn).symm.trans hcL)
  obtain ⟨hnameR, hdescR⟩ := name_of_methodNamed hn hrm
  obtain ⟨mk, methM, hnamed, hmethM, -, habM⟩ := Cond.instanceMethod_spec hinst
  obtain ⟨c2, r2, m2, q1, q2, q3, q4, -⟩ := Cond.selects_spec hsel
  cases hcls.symm.trans q1
  cases hfoundL.symm.trans q2
  cases hnamed.symm.trans q3
  have hselP : selectMethod e.platform s.vm cellB.cls r0 = .method mk := by rw [Launch.admits_selectMethod X.admits]; exact q4
  have hpubM : hasFlag methM.accessFlags Acc.public_ = true := Cond.publicMethod_spec hnamed hmethM hpub
  have hway : ((cellB.cls :: s.vm.superclasses cellB.cls).any fun k => (declaredIn s.vm r.name r.desc k).any fun (_, z) => z.isPrivate || z.isStatic) = false := by
    rw [hnameR, hdescR]; exact Cond.unhidden_spec hcls hunh
  obtain ⟨c3, t3, w1, w2, w3⟩ := Cond.castable_spec hcast
  cases hcls.symm.trans w1
  cases hcL.symm.trans w2
  obtain ⟨vm₁, X₁, hstep₁⟩ := X.invokeinterface hexec hown hlink hn hrm hstR (by rw [hr0cls]; exact hkL) hiL hx (a := b) (cell := cellB) (kcell := kB) hcell
    (fun z h => by rw [h] at hobj; cases hobj) hkB (by rw [hr0cls]; exact w3) hselP hmethM hway hpubM habM (g := g) hg (argsL := argsL) (rest := rest) (hlen _ hsigR) hstack hdg
  rcases hK m meth c ⟨T.setVm vm₁, locs, cells, slots⟩ { g with stack := rest } (.invokeinterface index count) mk (Value.ref b :: argsL).toArray X₁ hg hsize hdg hW (X₁.named hnamed) (hpre vm₁ X₁.warmed) with ⟨v, B, X', hpost, hsteps⟩ | ⟨q, B, X', hpost, hsteps⟩
  · exact Or.inl ⟨v, vm₁, B, X₁.warmed, X', hpost, fun target h => hstep₁ _ fun acts => by rw [doInvoke_state]; exact hsteps.trans h⟩
  · exact Or.inr ⟨q, vm₁, B, X₁.warmed, X', hpost, hstep₁ _ fun acts => by rw [doInvoke_state]; exact hsteps⟩
theorem vx_runFW {x y : MethodName} {bytes cc : ByteArray} {maxL nL mc ms n index count : Nat} {ret : Option FieldType} {hh : List (Nat × Nat × Nat × Nat)} {ws : List Cond} {rm : Room} {Pc : Array Value → State → Prop} {Qc : Array Value → State → Outcome → State → Prop} {XC : String → Addr → State → State → Prop} {free : Addr → Prop} {Ts : List Cond} {own C : String} {cC : ClassId} {b : Addr} {As rest : List Value} {g : JFrame}
    (hat : ClassAt s C cC) (S : CallFix p m c cc nL s args Ts own) (hM : vx_Met l y ws rm Pc Qc XC mc ms free) (cw : va_CIW R s args own C index x y bytes maxL ret hh ws rm mc ms n) (hp : PreV s H C b Pc As)
    (hg : g.method = m) (hn : As.length = n) (hsize : g.locals.size = nL) (hstack : g.stack = As.reverse ++ .ref b :: rest) (hW : 2 * g.monitorRoom + (rest.map fun v => v.category).sum ≤ 8) (hdg : decode cc g.pc = .ok (.invokeinterface index count, 5)) (hf : cells + mc ≤ R.cells ∧ slots + ms ≤ R.slots) :
    vx_Run5 p l e R s m args below meth c H locs cells slots mc ms g rest (Qc (Value.ref b :: As).toArray) XC free := by
  obtain ⟨hrc, hrs, hfr, hlo, hws, hcw⟩ := cw.back
  have hini := cw.init
  have hK : vx_Back l R p e below s args y 5 8 (PreOf R mc ms Pc) (PostOf Qc mc ms free) (vx_Post XC mc ms free) := vx_backW (hh := hh) (bytes := bytes) (maxL := maxL) (ret := ret) hM hp.1 hrc hrs hfr hlo hws hcw (fun a' U hW => word_at hW (Or.inl (by first | rfl | simp [Cond.onTables, Cond.keeps, Cond.steady])) hini)
  obtain ⟨hx, hb, hml, ho, -⟩ := S
  obtain ⟨-, ⟨cellB, hcB, hoB, hclB⟩, hPc⟩ := hp
  obtain ⟨hfc, kB, hkB, -⟩ := hat
  cases hfc.symm.trans hclB
  intro T hT X
  rcases vx_callIFW X hx (C := C) (hh := hh) (bytes := bytes) (maxL := maxL) (ret := ret) ho cw.link cw.decl cw.face cw.sel cw.inst cw.pub cw.unh cw.cast cw.code cw.notMH hK (by rw [hT]; exact hcB) hoB hclB hkB hg (hsize.trans hml.symm) (argsL := As) (rest := rest) (fun sig h => hn.trans (cw.len sig h)) hstack hW (by rw [hb]; exact hdg)
    (fun vm₁ hW₁ => ⟨hf.1, hf.2, hPc (T.setVm vm₁) hT hW₁⟩) with ⟨v, vm₁, ⟨U', l2, c2, s2⟩, hW₁, X', ⟨g', mk, t, L, e1, e2, hq, h1, hL, h2, h3⟩, st⟩ | ⟨q, vm₁, ⟨U', l2, c2, s2⟩, hW₁, X', ⟨g', mk, t, L, E, ce, e1, e2, hq, hce, hcv, hcl, h1, hL, h2, h3⟩, st⟩
  · dsimp only [Pt.U, Pt.locs, Pt.cells, Pt.slots] at X' e1 e2 h1 h2 h3 st
    subst h1; subst h2; subst h3
    exact Or.inl ⟨v, (T.setVm vm₁).calling g' mk (Value.ref b :: As).toArray, t, U', L, hT, X', hL, e1, e2, hq, st⟩
  · dsimp only [Pt.U, Pt.locs, Pt.cells, Pt.slots] at X' e1 e2 h1 h2 h3 st hcl
    subst h1; subst h2; subst h3
    exact Or.inr ⟨q, (T.setVm vm₁).calling g' mk (Value.ref b :: As).toArray, t, U', L, E, ce, hT, X', hL, e1, e2, hq, hce, hcv, vx_cls hW₁ hcl, st⟩
end
/-! ===== END ===== -/
/-! ===== BEGIN .. of methods that hand back an object of the pool ===== -/
section
variable {p : Program} {l : Launch} {e : Env} {R : Room} {s : State} {m : MethodId} {args : Array Value} {below : List Frame} {meth : Method} {c : Code} {H : Heap} {locs : List Loc} {cells slots : Nat} {Q : State → Prop}
variable {mc ms : Nat} {free : Addr → Prop} {A0 A1 : Nat → Prop} {H0 : Heap} {a : Array Value} {pc : Nat} {ls : Array Slot} {st0 rest : List Value}
theorem vx_callq {S SX : Type} {post : Option Nat → S → Prop} {px : SX → Prop} {B : S → State → Prop} {BX : String → Addr → SX → State → Prop} {AX : Nat → Prop} (hr : vx_Run p l e R s m args below meth c H locs cells slots mc ms (F0 m pc ls st0) rest (va_Qq post B A1 a) (vx_X px BX AX) free) (hS : va_S A0 H0 H locs) (hA : ∀ q, q < H.size → A1 q → A0 q) (hf : ∀ q, free q → A0 q) (hAX : ∀ q, q < H.size → AX q → A0 q)
    (kx : ∀ (E : String) (ce : Cell) (q9 : Addr) (u : SX) (t : State) (H1 : Heap) (locs1 : List Loc), t.heap = H1 → s.vm.Alike t.vm → px u → BX E q9 u t → H.size ≤ H1.size → (∀ q : Nat, q < H.size → ¬ AX q → H1[q]? = H[q]?) → va_S A0 H0 H1 locs1 → H1[q9]? = some ce → ce.vm = .none → s.vm.findClass E = some ce.cls → vx_W p l e R s m args below meth c H1 locs1 (cells + mc) (slots + ms) Q (F0 m pc ls rest) q9)
    (kk : ∀ (r : Option Nat) (u : S) (t : State) (H1 : Heap) (locs1 : List Loc), t.heap = H1 → s.vm.Alike t.vm → post r u → B u t → H.size ≤ H1.size → (∀ q : Nat, q < H.size → ¬ A1 q → H1[q]? = H[q]?) → va_S A0 H0 H1 locs1 → W p l e R s m args below meth c H1 locs1 (cells + mc) (slots + ms) Q (F0 m (pc + 3) ls (va_rf r :: rest))) : W p l e R s m args below meth c H locs cells slots Q (F0 m pc ls st0) := by
  intro T hT X
  rcases hr T hT X with ⟨v, st₀, t, T', L, h0, X', hL, e1, e2, ⟨⟨r, u, hv, hp, hb⟩, hF⟩, st⟩ | ⟨q, st₀, t, T', L, E, ce, h0, X', hL, e1, e2, ⟨u, hp, hb, hF⟩, hce, hcv, hcl, st⟩
  · cases hv
    obtain ⟨k1, k2, k3⟩ := vx_keep h0 e1 hS hA hf hL hF
    obtain ⟨t2, a1, b1⟩ := kk r u t T'.heap (locs ++ L) e1.symm (by rw [← e2]; exact X'.warmed.alike) hp hb k1 k2 k3 T' rfl X'
    exact ⟨t2, st t2 a1, b1⟩
  · obtain ⟨k1, k2, k3⟩ := vx_keep h0 e1 hS hAX hf hL hF
    obtain ⟨t2, a1, b1⟩ := kx E ce q u t T'.heap (locs ++ L) e1.symm (by rw [← e2]; exact X'.warmed.alike) hp hb k1 k2 k3 (by rw [e1]; exact hce) hcv hcl T' rfl X'
    exact ⟨t2, st.trans a1, b1⟩
end
/-! ===== END ===== -/
/-! ===== BEGIN .. a constant ===== -/
section
variable {p : Program} {l : Launch} {e : Env} {R : Room} {s : State} {m : MethodId} {args : Array Value} {below : List Frame} {meth : Method} {c : Code} {H : Heap} {locs : List Loc} {cells slots : Nat} {Q : State → Prop}
variable {mc ms : Nat} {free : Addr → Prop} {A0 A1 : Nat → Prop} {H0 : Heap} {a : Array Value} {pc : Nat} {ls : Array Slot} {st0 rest : List Value}
theorem vx_calle {ad : Nat → Nat} {S SX : Type} {post : Option Nat → S → Prop} {px : SX → Prop} {B : S → State → Prop} {BX : String → Addr → SX → State → Prop} {AX : Nat → Prop} (hr : vx_Run p l e R s m args below meth c H locs cells slots mc ms (F0 m pc ls st0) rest (va_Qe ad post B A1 a) (vx_X px BX AX) free) (hS : va_S A0 H0 H locs) (hA : ∀ q, q < H.size → A1 q → A0 q) (hf : ∀ q, free q → A0 q) (hAX : ∀ q, q < H.size → AX q → A0 q)
    (kx : ∀ (E : String) (ce : Cell) (q9 : Addr) (u : SX) (t : State) (H1 : Heap) (locs1 : List Loc), t.heap = H1 → s.vm.Alike t.vm → px u → BX E q9 u t → H.size ≤ H1.size → (∀ q : Nat, q < H.size → ¬ AX q → H1[q]? = H[q]?) → va_S A0 H0 H1 locs1 → H1[q9]? = some ce → ce.vm = .none → s.vm.findClass E = some ce.cls → vx_W p l e R s m args below meth c H1 locs1 (cells + mc) (slots + ms) Q (F0 m pc ls rest) q9)
    (kk : ∀ (r : Option Nat) (u : S) (t : State) (H1 : Heap) (locs1 : List Loc), t.heap = H1 → s.vm.Alike t.vm → post r u → B u t → H.size ≤ H1.size → (∀ q : Nat, q < H.size → ¬ A1 q → H1[q]? = H[q]?) → va_S A0 H0 H1 locs1 → W p l e R s m args below meth c H1 locs1 (cells + mc) (slots + ms) Q (F0 m (pc + 3) ls (va_re ad r :: rest))) : W p l e R s m args below meth c H locs cells slots Q (F0 m pc ls st0) := by
  intro T hT X
  rcases hr T hT X with ⟨v, st₀, t, T', L, h0, X', hL, e1, e2, ⟨⟨r, u, hv, hp, hb⟩, hF⟩, st⟩ | ⟨q, st₀, t, T', L, E, ce, h0, X', hL, e1, e2, ⟨u, hp, hb, hF⟩, hce, hcv, hcl, st⟩
  · cases hv
    obtain ⟨k1, k2, k3⟩ := vx_keep h0 e1 hS hA hf hL hF
    obtain ⟨t2, a1, b1⟩ := kk r u t T'.heap (locs ++ L) e1.symm (by rw [← e2]; exact X'.warmed.alike) hp hb k1 k2 k3 T' rfl X'
    exact ⟨t2, st t2 a1, b1⟩
  · obtain ⟨k1, k2, k3⟩ := vx_keep h0 e1 hS hAX hf hL hF
    obtain ⟨t2, a1, b1⟩ := kx E ce q u t T'.heap (locs ++ L) e1.symm (by rw [← e2]; exact X'.warmed.alike) hp hb k1 k2 k3 (by rw [e1]; exact hce) hcv hcl T' rfl X'
    exact ⟨t2, st.trans a1, b1⟩
end
/-! ===== END ===== -/
/-! ===== BEGIN .. by an interface, an object ===== -/
section
variable {p : Program} {l : Launch} {e : Env} {R : Room} {s : State} {m : MethodId} {args : Array Value} {below : List Frame} {meth : Method} {c : Code} {H : Heap} {locs : List Loc} {cells slots : Nat} {Q : State → Prop}
variable {mc ms : Nat} {free : Addr → Prop} {A0 A1 : Nat → Prop} {H0 : Heap} {a : Array Value} {pc : Nat} {ls : Array Slot} {st0 rest : List Value}
theorem vx_callFq {S SX : Type} {post : Option Nat → S → Prop} {px : SX → Prop} {B : S → State → Prop} {BX : String → Addr → SX → State → Prop} {AX : Nat → Prop} (hr : vx_Run5 p l e R s m args below meth c H locs cells slots mc ms (F0 m pc ls st0) rest (va_Qq post B A1 a) (vx_X px BX AX) free) (hS : va_S A0 H0 H locs) (hA : ∀ q, q < H.size → A1 q → A0 q) (hf : ∀ q, free q → A0 q) (hAX : ∀ q, q < H.size → AX q → A0 q)
    (kx : ∀ (E : String) (ce : Cell) (q9 : Addr) (u : SX) (t : State) (H1 : Heap) (locs1 : List Loc), t.heap = H1 → s.vm.Alike t.vm → px u → BX E q9 u t → H.size ≤ H1.size → (∀ q : Nat, q < H.size → ¬ AX q → H1[q]? = H[q]?) → va_S A0 H0 H1 locs1 → H1[q9]? = some ce → ce.vm = .none → s.vm.findClass E = some ce.cls → vx_W p l e R s m args below meth c H1 locs1 (cells + mc) (slots + ms) Q (F0 m pc ls rest) q9)
    (kk : ∀ (r : Option Nat) (u : S) (t : State) (H1 : Heap) (locs1 : List Loc), t.heap = H1 → s.vm.Alike t.vm → post r u → B u t → H.size ≤ H1.size → (∀ q : Nat, q < H.size → ¬ A1 q → H1[q]? = H[q]?) → va_S A0 H0 H1 locs1 → W p l e R s m args below meth c H1 locs1 (cells + mc) (slots + ms) Q (F0 m (pc + 5) ls (va_rf r :: rest))) : W p l e R s m args below meth c H locs cells slots Q (F0 m pc ls st0) := by
  intro T hT X
  rcases hr T hT X with ⟨v, st₀, t, T', L, h0, X', hL, e1, e2, ⟨⟨r, u, hv, hp, hb⟩, hF⟩, st⟩ | ⟨q, st₀, t, T', L, E, ce, h0, X', hL, e1, e2, ⟨u, hp, hb, hF⟩, hce, hcv, hcl, st⟩
  · cases hv
    obtain ⟨k1, k2, k3⟩ := vx_keep h0 e1 hS hA hf hL hF
    obtain ⟨t2, a1, b1⟩ := kk r u t T'.heap (locs ++ L) e1.symm (by rw [← e2]; exact X'.warmed.alike) hp hb k1 k2 k3 T' rfl X'
    exact ⟨t2, st t2 a1, b1⟩
  · obtain ⟨k1, k2, k3⟩ := vx_keep h0 e1 hS hAX hf hL hF
    obtain ⟨t2, a1, b1⟩ := kx E ce q u t T'.heap (locs ++ L) e1.symm (by rw [← e2]; exact X'.warmed.alike) hp hb k1 k2 k3 (by rw [e1]; exact hce) hcv hcl T' rfl X'
    exact ⟨t2, st.trans a1, b1⟩
end
/-! ===== END ===== -/
/-! ===== BEGIN .. by an interface, a constant ===== -/
section
variable {p : Program} {l : Launch} {e : Env} {R : Room} {s : State} {m : MethodId} {args : Array Value} {below : List Frame} {meth : Method} {c : Code} {H : Heap} {locs : List Loc} {cells slots : Nat} {Q : State → Prop}
variable {mc ms : Nat} {free : Addr → Prop} {A0 A1 : Nat → Prop} {H0 : Heap} {a : Array Value} {pc : Nat} {ls : Array Slot} {st0 rest : List Value}
theorem vx_callFe {ad : Nat → Nat} {S SX : Type} {post : Option Nat → S → Prop} {px : SX → Prop} {B : S → State → Prop} {BX : String → Addr → SX → State → Prop} {AX : Nat → Prop} (hr : vx_Run5 p l e R s m args below meth c H locs cells slots mc ms (F0 m pc ls st0) rest (va_Qe ad post B A1 a) (vx_X px BX AX) free) (hS : va_S A0 H0 H locs) (hA : ∀ q, q < H.size → A1 q → A0 q) (hf : ∀ q, free q → A0 q) (hAX : ∀ q, q < H.size → AX q → A0 q)
    (kx : ∀ (E : String) (ce : Cell) (q9 : Addr) (u : SX) (t : State) (H1 : Heap) (locs1 : List Loc), t.heap = H1 → s.vm.Alike t.vm → px u → BX E q9 u t → H.size ≤ H1.size → (∀ q : Nat, q < H.size → ¬ AX q → H1[q]? = H[q]?) → va_S A0 H0 H1 locs1 → H1[q9]? = some ce → ce.vm = .none → s.vm.findClass E = some ce.cls → vx_W p l e R s m args below meth c H1 locs1 (cells + mc) (slots + ms) Q (F0 m pc ls rest) q9)
    (kk : ∀ (r : Option Nat) (u : S) (t : State) (H1 : Heap) (locs1 : List Loc), t.heap = H1 → s.vm.Alike t.vm → post r u → B u t → H.size ≤ H1.size → (∀ q : Nat, q < H.size → ¬ A1 q → H1[q]? = H[q]?) → va_S A0 H0 H1 locs1 → W p l e R s m args below meth c H1 locs1 (cells + mc) (slots + ms) Q (F0 m (pc + 5) ls (va_re ad r :: rest))) : W p l e R s m args below meth c H locs cells slots Q (F0 m pc ls st0) := by
  intro T hT X
  rcases hr T hT X with ⟨v, st₀, t, T', L, h0, X', hL, e1, e2, ⟨⟨r, u, hv, hp, hb⟩, hF⟩, st⟩ | ⟨q, st₀, t, T', L, E, ce, h0, X', hL, e1, e2, ⟨u, hp, hb, hF⟩, hce, hcv, hcl, st⟩
  · cases hv
    obtain ⟨k1, k2, k3⟩ := vx_keep h0 e1 hS hA hf hL hF
    obtain ⟨t2, a1, b1⟩ := kk r u t T'.heap (locs ++ L) e1.symm (by rw [← e2]; exact X'.warmed.alike) hp hb k1 k2 k3 T' rfl X'
    exact ⟨t2, st t2 a1, b1⟩
  · obtain ⟨k1, k2, k3⟩ := vx_keep h0 e1 hS hAX hf hL hF
    obtain ⟨t2, a1, b1⟩ := kx E ce q u t T'.heap (locs ++ L) e1.symm (by rw [← e2]; exact X'.warmed.alike) hp hb k1 k2 k3 (by rw [e1]; exact hce) hcv hcl T' rfl X'
    exact ⟨t2, st.trans a1, b1⟩
end
/-! ===== END ===== -/
/-! ===== BEGIN what the machine throws by itself: null at a field, at athrow ===== -/
section VXM2
variable {p : Program} {l : Launch} {e : Env} {R : Room} {s : State} {m : MethodId} {args : Array Value} {below : List Frame} {meth : Method} {c : Code} {H : Heap} {locs : List Loc} {cells slots : Nat}
variable {Q : State → Prop} {cc : ByteArray} {pc : Nat} {ls : Array Slot} {rest : List Value}
theorem vx_getfN {D cl tys} {own ref C : String} {T : u_T} {N ci index : Nat} {Ts : List Cond} (hexec : p.tables.exec = Jvm.exec) (hb : c.code = cc) (hts : ∀ w ∈ Ts, w.before args s = true) (hin : ∀ w ∈ u_ws C T N, w ∈ Ts) (hown : s.vm.findClass own = some m.cls) (hK : va_K D cl tys s) (hc : cl[ci]? = some (C, T, N)) (k : Nat) (hk : k < N) (hlink : (Cond.fieldLink own index ref (T k).2.1 (T k).2.2.1).before args s = true) (hsame : ∀ x, s.fieldFound? (T k).1 (T k).2.1 (T k).2.2.1 = some x → s.fieldFound? ref (T k).2.1 (T k).2.2.1 = some x) (hdg : decode cc pc = .ok (.getfield index, 3)) (kk : vx_NoteN p l e R s m args below meth c H locs cells slots Q (F0 m pc ls rest)) : W p l e R s m args below meth c H locs cells slots Q (F0 m pc ls (.null :: rest)) := by
  obtain ⟨hS, hfc, kC, hkC, -⟩ := hK.1 ci _ hc
  obtain ⟨cf, kf, fi, f, hi, -⟩ := hS k hk
  intro U hU X
  obtain ⟨vm', X1, st1⟩ := X.getfieldNull hexec hown hlink (hsame _ hi) (u_facts hfc hkC (u_lays hts hin hk) hi).1 (g := F0 m pc ls (.null :: rest)) rfl (rest := rest) rfl (by rw [hb]; exact hdg)
  obtain ⟨t, st, q⟩ := kk (U.setVm vm') hU X1
  exact ⟨t, st1 t st, q⟩
theorem vx_getfNN {D cl tys} {own ref C host : String} {T : u_T} {N ci index : Nat} {Ts : List Cond} (hexec : p.tables.exec = Jvm.exec) (hb : c.code = cc) (hts : ∀ w ∈ Ts, w.before args s = true) (hin : ∀ w ∈ u_ws C T N, w ∈ Ts) (hown : s.vm.findClass own = some m.cls) (hK : va_K D cl tys s) (hc : cl[ci]? = some (C, T, N)) (k : Nat) (hk : k < N) (hlink : (Cond.fieldLinkNest own index ref (T k).2.1 (T k).2.2.1 host).before args s = true) (hsame : ∀ x, s.fieldFound? (T k).1 (T k).2.1 (T k).2.2.1 = some x → s.fieldFound? ref (T k).2.1 (T k).2.2.1 = some x) (hdg : decode cc pc = .ok (.getfield index, 3)) (kk : vx_NoteN p l e R s m args below meth c H locs cells slots Q (F0 m pc ls rest)) : W p l e R s m args below meth c H locs cells slots Q (F0 m pc ls (.null :: rest)) := by
  obtain ⟨hS, hfc, kC, hkC, -⟩ := hK.1 ci _ hc
  obtain ⟨cf, kf, fi, f, hi, -⟩ := hS k hk
  intro U hU X
  obtain ⟨vm', X1, st1⟩ := X.getfieldNullNest hexec hown hlink (hsame _ hi) (u_facts hfc hkC (u_lays hts hin hk) hi).1 (g := F0 m pc ls (.null :: rest)) rfl (rest := rest) rfl (by rw [hb]; exact hdg)
  obtain ⟨t, st, q⟩ := kk (U.setVm vm') hU X1
  exact ⟨t, st1 t st, q⟩
theorem vx_putfN {D cl tys} {own ref C : String} {T : u_T} {N ci index : Nat} {Ts : List Cond} (hexec : p.tables.exec = Jvm.exec) (hb : c.code = cc) (hts : ∀ w ∈ Ts, w.before args s = true) (hin : ∀ w ∈ u_ws C T N, w ∈ Ts) (hown : s.vm.findClass own = some m.cls) (hK : va_K D cl tys s) (hc : cl[ci]? = some (C, T, N)) (k : Nat) (hk : k < N) (hlink : (Cond.fieldLink own index ref (T k).2.1 (T k).2.2.1).before args s = true) (hsame : ∀ x, s.fieldFound? (T k).1 (T k).2.1 (T k).2.2.1 = some x → s.fieldFound? ref (T k).2.1 (T k).2.2.1 = some x) (hfin : (T k).2.2.2 = false) {v : Value} (hdg : decode cc pc = .ok (.putfield index, 3)) (kk : vx_NoteN p l e R s m args below meth c H locs cells slots Q (F0 m pc ls rest)) : W p l e R s m args below meth c H locs cells slots Q (F0 m pc ls (v :: .null :: rest)) := by
  obtain ⟨hS, hfc, kC, hkC, -⟩ := hK.1 ci _ hc
  obtain ⟨cf, kf, fi, f, hi, -⟩ := hS k hk
  have hlay := hts _ (hin _ (u_in_lay hk))
  unfold u_lay at hlay
  rw [if_neg (by rw [hfin]; decide)] at hlay
  obtain ⟨c9, k9, cf9, kf9, fi9, f9, -, -, hi9, hst9, hnf9, -⟩ := Cond.lays_spec hlay
  cases hi.symm.trans hi9
  intro U hU X
  obtain ⟨vm', X1, st1⟩ := X.putfieldNull hexec hown hlink (hsame _ hi) hst9 hnf9 (g := F0 m pc ls (v :: .null :: rest)) rfl (v := v) (rest := rest) rfl (by rw [hb]; exact hdg)
  obtain ⟨t, st, q⟩ := kk (U.setVm vm') hU X1
  exact ⟨t, st1 t st, q⟩
theorem vx_putfNN {D cl tys} {own ref C host : String} {T : u_T} {N ci index : Nat} {Ts : List Cond} (hexec : p.tables.exec = Jvm.exec) (hb : c.code = cc) (hts : ∀ w ∈ Ts, w.before args s = true) (hin : ∀ w ∈ u_ws C T N, w ∈ Ts) (hown : s.vm.findClass own = some m.cls) (hK : va_K D cl tys s) (hc : cl[ci]? = some (C, T, N)) (k : Nat) (hk : k < N) (hlink : (Cond.fieldLinkNest own index ref (T k).2.1 (T k).2.2.1 host).before args s = true) (hsame : ∀ x, s.fieldFound? (T k).1 (T k).2.1 (T k).2.2.1 = some x → s.fieldFound? ref (T k).2.1 (T k).2.2.1 = some x) (hfin : (T k).2.2.2 = false) {v : Value} (hdg : decode cc pc = .ok (.putfield index, 3)) (kk : vx_NoteN p l e R s m args below meth c H locs cells slots Q (F0 m pc ls rest)) : W p l e R s m args below meth c H locs cells slots Q (F0 m pc ls (v :: .null :: rest)) := by
  obtain ⟨hS, hfc, kC, hkC, -⟩ := hK.1 ci _ hc
  obtain ⟨cf, kf, fi, f, hi, -⟩ := hS k hk
  have hlay := hts _ (hin _ (u_in_lay hk))
  unfold u_lay at hlay
  rw [if_neg (by rw [hfin]; decide)] at hlay
  obtain ⟨c9, k9, cf9, kf9, fi9, f9, -, -, hi9, hst9, hnf9, -⟩ := Cond.lays_spec hlay
  cases hi.symm.trans hi9
  intro U hU X
  obtain ⟨vm', X1, st1⟩ := X.putfieldNullNest hexec hown hlink (hsame _ hi) hst9 hnf9 (g := F0 m pc ls (v :: .null :: rest)) rfl (v := v) (rest := rest) rfl (by rw [hb]; exact hdg)
  obtain ⟨t, st, q⟩ := kk (U.setVm vm') hU X1
  exact ⟨t, st1 t st, q⟩
theorem vx_athrowN (hexec : p.tables.exec = Jvm.exec) (hb : c.code = cc) (hdg : decode cc pc = .ok (.athrow, 1)) (k : vx_NoteN p l e R s m args below meth c H locs cells slots Q (F0 m pc ls rest)) : W p l e R s m args below meth c H locs cells slots Q (F0 m pc ls (.null :: rest)) := by
  intro T hT X
  obtain ⟨t, st, q⟩ := k T hT X
  exact ⟨t, X.athrowNull hexec (g := F0 m pc ls (.null :: rest)) rfl (rest := rest) rfl (by rw [hb]; exact hdg) t st, q⟩
end VXM2
/-! ===== END ===== -/

