/-! METHODS THAT CATCH (written by gen_h1.py) -/
def wsH_ (y : MethodName) (b : ByteArray) (L : Nat) (r : Option FieldType) (hh : List (Nat × Nat × Nat × Nat)) : List Cond := Cond.codeWith y b L r hh :: lw_all
def xWdH (y : MethodName) (b : ByteArray) (L : Nat) (r : Option FieldType) (hh : List (Nat × Nat × Nat × Nat)) (k : Nat) : Prop := (y.cls ≠ "java/lang/invoke/MethodHandle" ∧ y.cls ≠ "java/lang/invoke/VarHandle" ∧ (parseMethodDescriptor y.desc).map (fun d => d.parameters.length) = some k) ∧ L ≤ 30 ∧ Cond.codeWith y b L r hh ∈ lw_all ∧ Cond.initialized y.cls ∈ lw_all
/-- a method's contract that has handlers and throws nothing -/
def xMetH (l : Launch) (S : Adr) (A : Nat → Prop) (d mc ms k : Nat) (y : MethodName) (av : List Value) (ν : XN) (post : Option Value → XN → Prop) : Prop :=
  ∃ (b : ByteArray) (L : Nat) (r : Option FieldType) (hh : List (Nat × Nat × Nat × Nat)), xWdH y b L r hh k ∧ vx_Met l y (wsH_ y b L r hh) (rmX d mc ms) (va_Pc av (xPre S A ν)) (xQ S A post) (xX S A (fun _ => False)) mc ms A
theorem x_catch {κ : Cx} {S : Adr} {A : Nat → Prop} {mc ms : Nat} {Q : State → Prop} {cc : ByteArray} {own : String} {n : Nat} {ν : XN} {k0 n0 : Nat} {lv : List (Option Value)} (pc : Nat) {a b h0 ct : Nat} (hTab : (cxC κ).exceptionTable.toList = tableOf [(a, b, h0, ct)]) (h1 : covers ⟨a, b, h0, ct⟩ pc = true) (h2 : ct ≠ 0) (h : XCx κ cc own S A n mc ms) (hq : Cond.classLink own ct RX3 ∈ lw_all) (K : XG κ S A mc ms Q h0 (ν, k0, n0) lv [.ref (S.2.1 2)]) : XT κ S A mc ms Q pc (ν, k0, n0) lv := by
  intro H locs ls cells slots rest a b c
  have a : XI S A ν H ∧ cells + k0 ≤ mc ∧ slots + n0 ≤ ms := a
  obtain ⟨cell, q1, q2, q3, -⟩ := a.1.1.1 2 (RX3, TX3, 8) rfl
  obtain ⟨-, hfc, -⟩ := h.2.1.1.1 3 _ rfl
  exact vx_catch (own := own) (name := RX3) (E := RX3) h.1.2.2.1 [] _ [] hTab (fun z hz => by cases hz) h1 h2 (h.1.2.2.2 _ hq) (va_Nw.use rfl (h.2.1.2.1 _ q313 rfl)) q1 q3 (by rw [q2]; exact hfc) (K H locs ls cells slots a b c)
theorem x_startH {y : MethodName} {b : ByteArray} {L d mc ms k : Nat} {r : Option FieldType} {hh : List (Nat × Nat × Nat × Nat)} {l : Launch} {S : Adr} {A : Nat → Prop} {av : List Value} {ν : XN} {post : Option Value → XN → Prop} (hy : plainName y.cls = true) (hD : FD xT S xcl A) (hw : xWdH y b L r hh k) (hl : (lg_sl av).length ≤ L)
    (body : ∀ (κ : Cx) (Z : State → Prop), XCx κ b y.cls S A d mc ms → (cxT κ).sig.returnType = r → (cxT κ).name = y.name → xRet κ S A mc ms Z b post → (cxC κ).exceptionTable.toList = tableOf hh → XG κ S A mc ms Z 0 (ν, mc, ms) (lvOf L av) []) : xMetH l S A d mc ms k y av ν post := by
  refine ⟨b, L, r, hh, hw, vx_ofWH (cc := b) (maxL := L) (ret := r) (hh := hh) hy rfl ?_⟩
  intro p e s m args below meth c s₁ B hml hv
  obtain ⟨rfl, hF, hK, hA, hC, hZ⟩ := hv
  have hts := atoms_spec (ws := wsH_ y b L r hh) B.pre
  have hcw := hts _ List.mem_cons_self
  have hts : ∀ w ∈ lw_all, w.before _ s = true := fun w h => hts w (List.mem_cons_of_mem _ h)
  have hown : s.vm.findClass y.cls = some m.cls := findClass_of_methodNamed B.named
  have hx : XCx (p, l, e, (headSpec (wsH_ y b L r hh) (rmX d mc ms)).room, s, m, av.toArray, below, meth, c) b y.cls S A d mc ms := ⟨⟨B.exec, B.bytes, hown, hts⟩, hK, hD, hA, hC, rfl, hZ⟩
  have k := body _ _ hx B.returns (name_of_methodNamed B.named B.method).1 (x_endsX (post := post) (EX := fun _ => False) hx B.notSynchronized) (vx_table (x := y) B hcw)
  rw [lg_entry_eq]
  refine k s.heap [] _ 0 0 ⟨hF, by show 0 + mc ≤ mc; omega, by show 0 + ms ≤ ms; omega⟩ va_S.rf ?_
  show LV _ c.maxLocals _
  rw [hml]
  exact LV_entry av hl
section XH
variable {κ : Cx} {S : Adr} {A : Nat → Prop} {mc ms : Nat} {Q : State → Prop} {cc : ByteArray} {own : String} {n : Nat} {ν : XN} {k0 n0 : Nat} {lv : List (Option Value)} {rest st : List Value} {y : MethodName} {post : Option Value → XN → Prop} {kc nc k1 n1 idx d : Nat}
theorem x_callH (pc : Nat) {b : Nat} {As : List Value} (h : XCx κ cc own S A n mc ms) (hM : xMetH κ.2.1 S A d kc nc As.length y (.ref b :: As) ν post) (hd : d < n) (hk : kc + k1 ≤ k0) (hn : nc + n1 ≤ n0) (hi : Cond.instanceMethod y ∈ lw_all) (hs : Cond.selects y.cls y y ∈ lw_all) (hrc : ∀ H, XI S A ν H → ∃ cellB : Cell, H[b]? = some cellB ∧ cellB.vm.isStatics = false ∧ (cxS κ).vm.findClass y.cls = some cellB.cls) (hq : Cond.methodLink own idx y ∈ lw_all) (hW : (rest.map fun v => v.category).sum ≤ 8) (dc : decode cc pc = .ok (.invokevirtual idx, 3))
    (K : ∀ r ν1, post r ν1 → XG κ S A mc ms Q (pc + 3) (ν1, k1, n1) lv (r.toList ++ rest)) : XG κ S A mc ms Q pc (ν, k0, n0) lv (As.reverse ++ .ref b :: rest) := by
  intro H locs ls cells slots ha b' c T hT X
  have ha : XI S A ν H ∧ cells + k0 ≤ mc ∧ slots + n0 ≤ ms := ha
  obtain ⟨bb, L, r, hh, ⟨hdd, hL, hc, hin⟩, hm⟩ := hM
  have hg : GoodIn lw_all (wsV own idx y.cls y (wsH_ y bb L r hh)) := by
    intro w hw
    rcases List.mem_append.mp hw with e | e
    · simp only [List.mem_cons, List.not_mem_nil, or_false] at e
      rcases e with rfl | rfl | rfl | rfl
      · exact lw_self _ hq
      · exact lw_self _ hi
      · exact lw_self _ hs
      · exact lw_self _ hin
    · rcases List.mem_cons.mp e with rfl | e
      · exact lw_self _ hc
      · exact lw_self _ e
  have hr := vx_runVX (hh := hh) (C := y.cls) (b := b) (As := As) (rest := rest) (n := As.length) (nL := (cxC κ).maxLocals) (Ts := lw_all) (g := F0 κ.2.2.2.2.2.1 pc ls (As.reverse ++ .ref b :: rest)) (locs := locs) (below := κ.2.2.2.2.2.2.2.1) (meth := κ.2.2.2.2.2.2.2.2.1) (e := κ.2.2.1) ⟨h.1.1, h.1.2.1, rfl, h.1.2.2.1, h.1.2.2.2⟩ hm (vx_cwVW As.length h.1.2.2.2 hg rfl rfl rfl ⟨rfl, hdd⟩ (x_room h.2.2.2.2.2.1 hd hL)) ⟨xBlind S A ν _, hrc H ha.1, fun U hU hWU => x_pre h ha.1 b' U hU hWU⟩ rfl rfl c.1 rfl (by simpa using hW) dc (x_fit (H := H) h ha.2.1 ha.2.2 hk hn)
  rcases hr T hT X with ⟨v, st₀, t, T', Lc, g0, X', hLc, e1, e2, ⟨⟨r, ν1, hv, hp, hb⟩, hF⟩, stp⟩ | ⟨q, st₀, t, T', Lc, E, ce, g0, X', hLc, e1, e2, ⟨⟨rfl, rfl⟩, ⟨ν1, hp, hb⟩, hF⟩, hce, hcv, hcl, stp⟩
  · cases hv
    obtain ⟨hz, hk2⟩ := hF
    rw [g0] at hz hk2
    obtain ⟨t2, a1, b1⟩ := K v ν1 hp T'.heap (locs ++ Lc) ls (cells + kc) (slots + nc) ⟨by rw [e1]; exact hb, by show _ + k1 ≤ mc; omega, by show _ + n1 ≤ ms; omega⟩ ⟨Nat.le_trans b'.1 (by rw [e1]; exact hz), fun q g1 g2 => by rw [e1, hk2 q (Nat.lt_of_lt_of_le g1 b'.1) g2]; exact b'.2.1 q g1 g2, fun q hq => by
      rcases List.mem_append.mp hq with h | h
      · exact b'.2.2 q h
      · exact hLc q h⟩ c T' rfl X'
    exact ⟨t2, stp t2 a1, b1⟩
  · exact hp.elim
end XH
