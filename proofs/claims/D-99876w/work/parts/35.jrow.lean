/-! THE JDK's ROWS (written by gen_j1.py) -/
theorem sel_priv {s : State} {args : Array Value} {y z : MethodName} {C : String} (hz : (Cond.selects C z z).before args s = true) (hzy : z.cls = y.cls) (hpriv : (Cond.privateMethod y).before args s = true) (hinst : (Cond.instanceMethod y).before args s = true) (hy : y.cls ≠ "java/lang/invoke/MethodHandle" ∧ y.cls ≠ "java/lang/invoke/VarHandle") : (Cond.selects C y y).before args s = true := by
  obtain ⟨mk, methM, hnamed, hmethM, -, -⟩ := Cond.instanceMethod_spec hinst
  have hfound : s.methodFound? y.cls y.name y.desc = some mk := State.methodFound?_of_named hnamed hy
  have hcy := findClass_of_methodNamed hnamed
  have hp := Cond.privateMethod_at hpriv mk methM hnamed hmethM
  simp only [Cond.before, Cond.holds, Cond.value] at hz ⊢
  cases hC : s.vm.findClass C with
  | none => rw [hC] at hz; simp at hz
  | some c =>
    have hsel : selectMethod {} s.vm c mk = .method mk := selectMethod_private hmethM hp
    rw [hC] at hz
    cases hf : s.methodFound? z.cls z.name z.desc with
    | none => rw [hf] at hz; simp at hz
    | some r =>
      rw [hf] at hz
      cases hm : s.methodNamed? z with
      | none => rw [hm] at hz; simp at hz
      | some m =>
        rw [hm] at hz
        have hcz := findClass_of_methodNamed hm
        rw [hzy, hcy] at hcz
        have hmc : m.cls = mk.cls := (Option.some.inj hcz).symm
        simp only [hfound, hnamed, hsel]
        cases hs : selectMethod {} s.vm c r with
        | method m' =>
          simp only [hs, hmc] at hz
          simp at hz ⊢
          exact hz.2
        | _ => simp only [hs] at hz; simp at hz
section JR
variable {κ : Cx} {S : Adr} {A : Nat → Prop} {mc ms : Nat} {Q : State → Prop} {cc : ByteArray} {own : String} {n : Nat} {ν : XN} {k0 n0 : Nat} {lv : List (Option Value)} {st rest : List Value} {y : MethodName} {post : Option Value → XN → Prop} {kc nc k1 n1 idx d : Nat} {host : String}
/-- a private method of AbstractStringBuilder, called of a StringBuilder -/
theorem x_callP (pc : Nat) {b : Nat} {As : List Value} (hc17 : rc ν.2 b = 17) (h : XCx κ cc own S A n mc ms) (hM : xMet κ.2.1 S A d kc nc As.length y (.ref b :: As) ν post) (hd : d < n) (hk : kc + k1 ≤ k0) (hn : nc + n1 ≤ n0) (hy : y.cls = "java/lang/AbstractStringBuilder") (hp : Cond.privateMethod y ∈ lw_tbl) (h2 : Cond.sameMethod y.cls y.cls y.name y.desc ∈ lw_all) (hi : Cond.instanceMethod y ∈ lw_all) (hq : Cond.methodLink own idx y ∈ lw_all) (hW : (rest.map fun v => v.category).sum ≤ 8) (dc : decode cc pc = .ok (.invokevirtual idx, 3))
    (K : ∀ r ν1, post r ν1 → XG κ S A mc ms Q (pc + 3) (ν1, k1, n1) lv (r.toList ++ rest)) : XG κ S A mc ms Q pc (ν, k0, n0) lv (As.reverse ++ .ref b :: rest) := by
  intro H locs ls cells slots ha b' c
  obtain ⟨bb, L, r, ⟨hdd, hL, hc, hin⟩, hm⟩ := hM
  have hG : GoodIn lw_all (ws_ y bb L r) := lw_meth hc
  have hR : (rmX d kc nc).frames + 1 ≤ (cxR κ).frames ∧ 8 + (L + 11) + (rmX d kc nc).locals ≤ (cxR κ).locals := x_room h.2.2.2.2.2.1 hd hL
  have hsel : (Cond.selects "java/lang/StringBuilder" y y).before (κ.2.2.2.2.2.2.1) (cxS κ) = true := sel_priv (h.1.2.2.2 _ q1175) hy.symm (va_Nw.use rfl (h.2.1.2.1 _ hp rfl)) (h.1.2.2.2 _ hi) (by rw [hy]; exact ⟨by decide, by decide⟩)
  have cw : va_CU (cxR κ) (cxS κ) κ.2.2.2.2.2.2.1 own "java/lang/StringBuilder" y.cls idx y y bb L r (ws_ y bb L r) (rmX d kc nc) kc nc As.length := by
    refine ⟨⟨rfl, rfl, hR.1, hR.2, pay_in h.1.2.2.2 hG, List.mem_cons_self⟩, h.1.2.2.2 _ hc, h.1.2.2.2 _ hin, ⟨hdd.1, hdd.2.1⟩, fun sig hs => ?_, h.1.2.2.2 _ hq, h.1.2.2.2 _ h2, va_Decl.of (h.1.2.2.2 _ hi) (h.1.2.2.2 _ hc), hsel, h.1.2.2.2 _ hi⟩
    have h3 := hdd.2.2
    rw [hs] at h3
    exact (Option.some.inj h3).symm
  exact x_behind (va_runU (C := "java/lang/StringBuilder") (owner := y.cls) (b := b) (As := As) (rest := rest) (n := As.length) (nL := (cxC κ).maxLocals) (Ts := lw_all) ⟨h.1.1, h.1.2.1, rfl, h.1.2.2.1, h.1.2.2.2⟩ hm cw ⟨xBlind S A ν _, x_recvR h (c := 16) hc17 rfl ha.1, fun U hU hWU => x_pre h ha.1 b' U hU hWU⟩ rfl rfl c.1 rfl (by simpa using hW) dc (x_fit (H := H) h ha.2.1 ha.2.2 hk hn)) b' c ha.2.1 ha.2.2 hk hn K
theorem xcP_I_0 (pc : Nat) {b : Nat} {post : Int32 → XN → Prop} (hc17 : rc ν.2 b = 17) (h : XCx κ cc own S A n mc ms) (hM : xMet κ.2.1 S A d kc nc 0 y (.ref b :: []) ν (pI post)) (hd : d < n) (hk : kc + k1 ≤ k0) (hn : nc + n1 ≤ n0) (hy : y.cls = "java/lang/AbstractStringBuilder") (hp : Cond.privateMethod y ∈ lw_tbl) (h2 : Cond.sameMethod y.cls y.cls y.name y.desc ∈ lw_all) (hi : Cond.instanceMethod y ∈ lw_all) (hq : Cond.methodLink own idx y ∈ lw_all) (hW : (rest.map fun v => v.category).sum ≤ 8) (dc : decode cc pc = .ok (.invokevirtual idx, 3)) (K : ∀ r ν1, post r ν1 → XG κ S A mc ms Q (pc + 3) (ν1, k1, n1) lv (.int r :: rest)) : XG κ S A mc ms Q pc (ν, k0, n0) lv (.ref b :: rest) := x_callP pc (As := []) hc17 h hM hd hk hn hy hp h2 hi hq hW dc (fun r ν1 hp => by obtain ⟨v, rfl, hp⟩ := hp; exact K v ν1 hp)
theorem xcP_I_1 (pc : Nat) {b : Nat} {x0 : Value} {post : Int32 → XN → Prop} (hc17 : rc ν.2 b = 17) (h : XCx κ cc own S A n mc ms) (hM : xMet κ.2.1 S A d kc nc 1 y (.ref b :: [x0]) ν (pI post)) (hd : d < n) (hk : kc + k1 ≤ k0) (hn : nc + n1 ≤ n0) (hy : y.cls = "java/lang/AbstractStringBuilder") (hp : Cond.privateMethod y ∈ lw_tbl) (h2 : Cond.sameMethod y.cls y.cls y.name y.desc ∈ lw_all) (hi : Cond.instanceMethod y ∈ lw_all) (hq : Cond.methodLink own idx y ∈ lw_all) (hW : (rest.map fun v => v.category).sum ≤ 8) (dc : decode cc pc = .ok (.invokevirtual idx, 3)) (K : ∀ r ν1, post r ν1 → XG κ S A mc ms Q (pc + 3) (ν1, k1, n1) lv (.int r :: rest)) : XG κ S A mc ms Q pc (ν, k0, n0) lv (x0 :: .ref b :: rest) := x_callP pc (As := [x0]) hc17 h hM hd hk hn hy hp h2 hi hq hW dc (fun r ν1 hp => by obtain ⟨v, rfl, hp⟩ := hp; exact K v ν1 hp)
theorem xcP_V_0 (pc : Nat) {b : Nat} {post : XN → Prop} (hc17 : rc ν.2 b = 17) (h : XCx κ cc own S A n mc ms) (hM : xMet κ.2.1 S A d kc nc 0 y (.ref b :: []) ν (pV post)) (hd : d < n) (hk : kc + k1 ≤ k0) (hn : nc + n1 ≤ n0) (hy : y.cls = "java/lang/AbstractStringBuilder") (hp : Cond.privateMethod y ∈ lw_tbl) (h2 : Cond.sameMethod y.cls y.cls y.name y.desc ∈ lw_all) (hi : Cond.instanceMethod y ∈ lw_all) (hq : Cond.methodLink own idx y ∈ lw_all) (hW : (rest.map fun v => v.category).sum ≤ 8) (dc : decode cc pc = .ok (.invokevirtual idx, 3)) (K : ∀ ν1, post ν1 → XG κ S A mc ms Q (pc + 3) (ν1, k1, n1) lv (rest)) : XG κ S A mc ms Q pc (ν, k0, n0) lv (.ref b :: rest) := x_callP pc (As := []) hc17 h hM hd hk hn hy hp h2 hi hq hW dc (fun r ν1 hp => by obtain ⟨rfl, hp⟩ := hp; exact K ν1 hp)
theorem xcP_V_1 (pc : Nat) {b : Nat} {x0 : Value} {post : XN → Prop} (hc17 : rc ν.2 b = 17) (h : XCx κ cc own S A n mc ms) (hM : xMet κ.2.1 S A d kc nc 1 y (.ref b :: [x0]) ν (pV post)) (hd : d < n) (hk : kc + k1 ≤ k0) (hn : nc + n1 ≤ n0) (hy : y.cls = "java/lang/AbstractStringBuilder") (hp : Cond.privateMethod y ∈ lw_tbl) (h2 : Cond.sameMethod y.cls y.cls y.name y.desc ∈ lw_all) (hi : Cond.instanceMethod y ∈ lw_all) (hq : Cond.methodLink own idx y ∈ lw_all) (hW : (rest.map fun v => v.category).sum ≤ 8) (dc : decode cc pc = .ok (.invokevirtual idx, 3)) (K : ∀ ν1, post ν1 → XG κ S A mc ms Q (pc + 3) (ν1, k1, n1) lv (rest)) : XG κ S A mc ms Q pc (ν, k0, n0) lv (x0 :: .ref b :: rest) := x_callP pc (As := [x0]) hc17 h hM hd hk hn hy hp h2 hi hq hW dc (fun r ν1 hp => by obtain ⟨rfl, hp⟩ := hp; exact K ν1 hp)
/-- the class object of Object[] -/
theorem x_ldcM (pc : Nat) (h : XCx κ cc own S A n mc ms) (hq : Cond.classLink own idx "[Ljava/lang/Object;" ∈ lw_all) (d : decode cc pc = .ok (.ldc idx, 2)) (K : ∀ b, fR ν.1 901 6 = .ref b → XG κ S A mc ms Q (pc + 2) (ν, k0, n0) lv (.ref b :: st)) : XG κ S A mc ms Q pc (ν, k0, n0) lv st :=
  fun H locs ls cells slots a b c => va_ldcM h.1.1 h.1.2.1 h.1.2.2.1 (h.1.2.2.2 _ hq) h.2.1.2.2.2.1.2.1 d (K _ (a.1.2.2.2.1 6).2 H locs ls cells slots a b c)
theorem x_getC (pc : Nat) {a : Nat} (hn : 1 ≤ n) (ha : rc ν.2 a = 109) (h : XCx κ cc own S A n mc ms) (hq : Cond.methodLink own idx ⟨"java/lang/Object", "getClass", "()Ljava/lang/Class;"⟩ ∈ lw_all) (hW : (st.map fun v => v.category).sum ≤ 8) (d : decode cc pc = .ok (.invokevirtual idx, 3)) (K : ∀ b, fR ν.1 901 6 = .ref b → XG κ S A mc ms Q (pc + 3) (ν, k0, n0) lv (.ref b :: st)) : XG κ S A mc ms Q pc (ν, k0, n0) lv (.ref a :: st) := by
  intro H locs ls cells slots hi b c
  have hP := x_rarr hi.1.2.1 (t := 9) ha
  exact va_getC h.1.1 h.1.2.1 c.1.symm h.1.2.2.1 (h.1.2.2.2 _ hq) (va_Nw.use rfl (h.2.1.2.1 _ q2741 rfl)) (h.1.2.2.2 _ q2740) (h.1.2.2.2 _ q895) (h.1.2.2.2 _ q921) h.2.1.2.2.2.1.2.1 ⟨_, hP 0 _ rfl, rfl, va_nmO (h.2.1.1.2 7 _ rfl).2 rfl⟩ (by show 1 ≤ (cxR κ).frames; rw [h.2.2.2.2.2.1]; exact hn) (by show _ ≤ (cxR κ).locals; rw [h.2.2.2.2.2.1]; show _ ≤ 60 * n; omega) d (K _ (hi.1.2.2.2.1 6).2 H locs ls cells slots hi b c)
def tIs (ρ : RS) (a : Nat) (f : Nat → Int32) : RS := (ρ.1, fun x => if x = a then f else ρ.2.1 x, ρ.2.2)
def tOs (ρ : RS) (a : Nat) (f : Nat → Option Nat) : RS := (ρ.1, ρ.2.1, ρ.2.2.1, fun x => if x = a then f else ρ.2.2.2 x)
theorem tIs_o (ρ : RS) (a : Nat) (f : Nat → Int32) : ∀ b, b ≠ a → (∀ k, rI (tIs ρ a f) b k = rI ρ b k) ∧ (∀ k, rL (tIs ρ a f) b k = rL ρ b k) ∧ ∀ k, rO (tIs ρ a f) b k = rO ρ b k := fun b hb => ⟨fun k => by simp [rI, tIs, hb], fun k => rfl, fun k => rfl⟩
theorem tOs_o (ρ : RS) (a : Nat) (f : Nat → Option Nat) : ∀ b, b ≠ a → (∀ k, rI (tOs ρ a f) b k = rI ρ b k) ∧ (∀ k, rL (tOs ρ a f) b k = rL ρ b k) ∧ ∀ k, rO (tOs ρ a f) b k = rO ρ b k := fun b hb => ⟨fun k => rfl, fun k => rfl, fun k => by simp [rO, tOs, hb]⟩
theorem i32_nn (z : Int32) (hz : ¬ z < 0) : z.toInt = (z.toNatClampNeg : Int) := by
  have hz0 : (0 : Int) ≤ z.toInt := by
    have := Int32.not_lt.mp hz
    simpa using Int32.le_iff_toInt_le.mp this
  show z.toInt = ((z.toInt.toNat : Nat) : Int)
  omega
theorem x_copyB (pc : Nat) {a0 a : Nat} {sp dp z : Int32} (hn : 1 ≤ n) (ht0 : rc ν.2 a0 = 102) (ht : rk ν.2 a = 102) (h1 : ¬ sp < 0) (h2 : ¬ dp < 0) (h3 : ¬ z < 0) (h4 : sp.toNatClampNeg + z.toNatClampNeg ≤ rn ν.2 a0) (h5 : dp.toNatClampNeg + z.toNatClampNeg ≤ rn ν.2 a) (hfit : ∀ i, i < z.toNatClampNeg → fits .byte (.int (rI ν.2 a0 (sp.toNatClampNeg + i))) = true) (h : XCx κ cc own S A n mc ms) (hq : Cond.methodLink own idx arraycopyName ∈ lw_all) (hW : (st.map fun v => v.category).sum ≤ 8) (d : decode cc pc = .ok (.invokestatic idx, 3))
    (K : ∀ ν1, ν1 = (ν.1, tIs ν.2 a (va_cpy (rI ν.2 a0) (rI ν.2 a) sp.toNatClampNeg dp.toNatClampNeg z.toNatClampNeg)) → XG κ S A mc ms Q (pc + 3) (ν1, k0, n0) lv st) : XG κ S A mc ms Q pc (ν, k0, n0) lv (.int z :: .int dp :: .ref a :: .int sp :: .ref a0 :: st) := by
  intro H locs ls cells slots hi b c T hT X
  have hi : XI S A ν H ∧ cells + k0 ≤ mc ∧ slots + n0 ≤ ms := hi
  have hrc : rc ν.2 a = 102 := rc_of ht (by decide)
  have hne : rk ν.2 a ≠ 0 := by omega
  have hAa := (hi.1.2.2.1 a hne).2.1 (by omega)
  have hc0 : H[a0]? = some (vp_cell (S.2.2.2 2) (rn ν.2 a0, .inl (rI ν.2 a0))) := x_rarr hi.1.2.1 (t := 2) ht0 0 _ rfl
  have hc1 : H[a]? = some (vp_cell (S.2.2.2 2) (rn ν.2 a, .inl (rI ν.2 a))) := x_rarr hi.1.2.1 (t := 2) hrc 0 _ rfl
  obtain ⟨-, kA, hkA, cm, hkk⟩ := (h.2.1.1.2 1 _ rfl).1 0 (fun _ => .int 0)
  obtain ⟨vm', X', step⟩ := X.arraycopy h.1.1 h.1.2.2.1 (h.1.2.2.2 _ hq) (h.1.2.2.2 _ q932) (h.1.2.2.2 _ q931) (h.1.2.2.2 _ q193) (src := a0) (dst := a) (cs := vp_cell (S.2.2.2 2) (rn ν.2 a0, .inl (rI ν.2 a0))) (cd := vp_cell (S.2.2.2 2) (rn ν.2 a, .inl (rI ν.2 a))) (srcPos := sp) (destPos := dp) (n := z) (by rw [hT]; exact hc0) (by rw [hT]; exact hc1)
    (fun _ h => by cases h) (fun _ h => by cases h) (fun h => by cases h) (fun h => by cases h) hkA hkA hkk hkk rfl h1 h2 h3
    (by rw [i32_nn sp h1, i32_nn z h3]; show ¬ _ > ((arrV (S.2.2.2 2) (rn ν.2 a0) (fun j => .int (rI ν.2 a0 j))).slots.size : Int); rw [arrV_size]; omega)
    (by rw [i32_nn dp h2, i32_nn z h3]; show ¬ _ > ((arrV (S.2.2.2 2) (rn ν.2 a) (fun j => .int (rI ν.2 a j))).slots.size : Int); rw [arrV_size]; omega)
    (fun vm₁ _ i hi => by
      have e : (vp_cell (S.2.2.2 2) (rn ν.2 a0, .inl (rI ν.2 a0))).slots.getD (sp.toNatClampNeg + i) .null = .int (rI ν.2 a0 (sp.toNatClampNeg + i)) := by
        show (arrV (S.2.2.2 2) (rn ν.2 a0) (fun j => .int (rI ν.2 a0 j))).slots.getD _ _ = _
        rw [Array.getD_eq_getD_getElem?, arrV_read _ _ (by omega)]
        rfl
      rw [e]
      exact ⟨hfit i hi, trivial⟩)
    (g := F0 κ.2.2.2.2.2.1 pc ls (.int z :: .int dp :: .ref a :: .int sp :: .ref a0 :: st)) rfl c.1 (rest := st) rfl (by rw [show κ.2.2.2.2.2.2.2.2.2.code = cc from h.1.2.1]; exact d) (by show 1 ≤ (cxR κ).frames; rw [h.2.2.2.2.2.1]; exact hn) (by show 2 * 0 + _ + _ ≤ (cxR κ).locals; rw [h.2.2.2.2.2.1]; show _ ≤ 60 * n; have hw : nativeFrameWords "java/lang/System" "arraycopy" 5 ≤ 20 := (by decide); omega)
  have e1 : copied (vp_cell (S.2.2.2 2) (rn ν.2 a0, .inl (rI ν.2 a0))) (vp_cell (S.2.2.2 2) (rn ν.2 a, .inl (rI ν.2 a))) sp dp z = vp_cell (S.2.2.2 2) (rn ν.2 a, .inl (va_cpy (rI ν.2 a0) (rI ν.2 a) sp.toNatClampNeg dp.toNatClampNeg z.toNatClampNeg)) := va_copied (fun z => .int z) (S.2.2.2 2) (S.2.2.2 2) (rI ν.2 a0) (rI ν.2 a) h4
  rw [e1] at X' step
  have hl : a < H.size := (Array.getElem?_eq_some_iff.mp hc1).1
  generalize hN : vp_cell (S.2.2.2 2) (rn ν.2 a, .inl (va_cpy (rI ν.2 a0) (rI ν.2 a) sp.toNatClampNeg dp.toNatClampNeg z.toNatClampNeg)) = cN at X' step
  have hheap : ((T.setVm vm').setCell a cN).heap = H.setIfInBounds a cN := by rw [← hT]; rfl
  have oq : ∀ q : Nat, q ≠ a → (H.setIfInBounds a cN)[q]? = H[q]? := fun q hq => by simp [Array.getElem?_setIfInBounds, Ne.symm hq]
  have es : (H.setIfInBounds a cN)[a]? = some cN := by simp [Array.getElem?_setIfInBounds, hl]
  obtain ⟨t, a1, b1⟩ := K _ rfl (H.setIfInBounds a cN) _ ls cells slots ⟨hi.1.raw hne oq rfl (tIs_o _ _ _) (fun c' r' hc' hr' => by
      have := (List.getElem?_eq_some_iff.mp hr').1
      have : c' < 22 := this
      omega) (fun t' ht' => by
      obtain rfl : t' = 2 := by omega
      rw [es, ← hN]
      show _ = some (vp_cell _ (rn ν.2 a, .inl (rI (tIs ν.2 a _) a)))
      simp [rI, tIs]), hi.2⟩ ⟨by simp; exact b.1, fun q g1 g2 => by
      rw [oq q (fun e => g2 (by rw [e]; exact hAa))]
      exact b.2.1 q g1 g2, fun q hq => by
      rcases List.mem_append.mp hq with h | h
      · exact b.2.2 q h
      · obtain ⟨z, -, hz⟩ := List.mem_map.mp h
        rw [← hz]
        exact hAa⟩ c _ hheap X'
  exact ⟨t, step t a1, b1⟩
theorem x_any (h : XCx κ cc own S A n mc ms) {H : Heap} (hi : XI S A ν H) {v : Nat} (hv : 1 ≤ rc ν.2 v ∧ rc ν.2 v < 23) : va_Any "java/lang/Object" (cxS κ) H v := by
  obtain ⟨cv, hcv⟩ : ∃ cv, rc ν.2 v = cv + 1 := ⟨rc ν.2 v - 1, by omega⟩
  have hl : cv < xcl.length := by show cv < 22; omega
  have hr : xcl[cv]? = some xcl[cv] := List.getElem?_eq_getElem hl
  obtain ⟨cellV, g1, g2, g3, -⟩ := hi.2.1.1 v cv _ hcv hr
  have hcls := (h.2.1.1.1 cv _ hr).2
  obtain ⟨kV, hkV, -⟩ := hcls.2
  exact ⟨cellV, g1, by rw [g3]; rfl, ⟨kV, by rw [g2]; exact hkV⟩, fun comp hcp => by rw [g2]; exact vb_asgC (h.2.1.2.1 _ (xcastO cv _ hr) rfl) comp (S.1.1 cv) hcp hcls.1⟩
theorem x_copyO (pc : Nat) {a0 a : Nat} {sp dp z : Int32} (hn : 1 ≤ n) (ht0 : rc ν.2 a0 = 109) (ht : rk ν.2 a = 109) (h1 : ¬ sp < 0) (h2 : ¬ dp < 0) (h3 : ¬ z < 0) (h4 : sp.toNatClampNeg + z.toNatClampNeg ≤ rn ν.2 a0) (h5 : dp.toNatClampNeg + z.toNatClampNeg ≤ rn ν.2 a) (hel : ∀ i, i < z.toNatClampNeg → ∀ v, rO ν.2 a0 (sp.toNatClampNeg + i) = some v → 1 ≤ rc ν.2 v ∧ rc ν.2 v < 23) (h : XCx κ cc own S A n mc ms) (hq : Cond.methodLink own idx arraycopyName ∈ lw_all) (hW : (st.map fun v => v.category).sum ≤ 8) (d : decode cc pc = .ok (.invokestatic idx, 3))
    (K : ∀ ν1, ν1 = (ν.1, tOs ν.2 a (va_cpy (rO ν.2 a0) (rO ν.2 a) sp.toNatClampNeg dp.toNatClampNeg z.toNatClampNeg)) → XG κ S A mc ms Q (pc + 3) (ν1, k0, n0) lv st) : XG κ S A mc ms Q pc (ν, k0, n0) lv (.int z :: .int dp :: .ref a :: .int sp :: .ref a0 :: st) := by
  intro H locs ls cells slots hi b c T hT X
  have hi : XI S A ν H ∧ cells + k0 ≤ mc ∧ slots + n0 ≤ ms := hi
  have hrc : rc ν.2 a = 109 := rc_of ht (by decide)
  have hne : rk ν.2 a ≠ 0 := by omega
  have hAa := (hi.1.2.2.1 a hne).2.1 (by omega)
  have hc0 : H[a0]? = some (vp_cell (S.2.2.2 9) (rn ν.2 a0, .inr (.inr (.inr (.inr (rO ν.2 a0)))))) := x_rarr hi.1.2.1 (t := 9) ht0 0 _ rfl
  have hc1 : H[a]? = some (vp_cell (S.2.2.2 9) (rn ν.2 a, .inr (.inr (.inr (.inr (rO ν.2 a)))))) := x_rarr hi.1.2.1 (t := 9) hrc 0 _ rfl
  obtain ⟨kA, comp, hkA, hkk, r3, -⟩ := (h.2.1.1.2 7 _ rfl).2
  obtain ⟨kE, hkE, -⟩ := Vm.findClass_spec r3
  obtain ⟨vm', X', step⟩ := X.arraycopy h.1.1 h.1.2.2.1 (h.1.2.2.2 _ hq) (h.1.2.2.2 _ q932) (h.1.2.2.2 _ q931) (h.1.2.2.2 _ q193) (src := a0) (dst := a) (cs := vp_cell (S.2.2.2 9) (rn ν.2 a0, .inr (.inr (.inr (.inr (rO ν.2 a0)))))) (cd := vp_cell (S.2.2.2 9) (rn ν.2 a, .inr (.inr (.inr (.inr (rO ν.2 a)))))) (srcPos := sp) (destPos := dp) (n := z) (by rw [hT]; exact hc0) (by rw [hT]; exact hc1)
    (fun _ h => by cases h) (fun _ h => by cases h) (fun h => by cases h) (fun h => by cases h) hkA hkA hkk hkk rfl h1 h2 h3
    (by rw [i32_nn sp h1, i32_nn z h3]; show ¬ _ > ((arrV (S.2.2.2 9) (rn ν.2 a0) (fun j => va_rf (rO ν.2 a0 j))).slots.size : Int); rw [arrV_size]; omega)
    (by rw [i32_nn dp h2, i32_nn z h3]; show ¬ _ > ((arrV (S.2.2.2 9) (rn ν.2 a) (fun j => va_rf (rO ν.2 a j))).slots.size : Int); rw [arrV_size]; omega)
    (fun vm₁ hal i hi2 => by
      have e : (vp_cell (S.2.2.2 9) (rn ν.2 a0, .inr (.inr (.inr (.inr (rO ν.2 a0)))))).slots.getD (sp.toNatClampNeg + i) .null = va_rf (rO ν.2 a0 (sp.toNatClampNeg + i)) := by
        show (arrV (S.2.2.2 9) (rn ν.2 a0) (fun j => va_rf (rO ν.2 a0 j))).slots.getD _ _ = _
        rw [Array.getD_eq_getD_getElem?, arrV_read _ _ (by omega)]
        rfl
      rw [e]
      cases hy : rO ν.2 a0 (sp.toNatClampNeg + i) with
      | none => exact ⟨rfl, trivial⟩
      | some y =>
        obtain ⟨cellV, g1, g2, ⟨kC, hkC⟩, hasg⟩ := x_any h hi.1 (hel i hi2 y hy)
        obtain ⟨kC', hkC', -⟩ := hal.2.2 _ _ hkC
        obtain ⟨kE', hkE', -⟩ := hal.2.2 _ _ hkE
        refine ⟨rfl, cellV, (show T.heap[y]? = some cellV by rw [hT]; exact g1), (fun q h => by rw [h] at g2; cases g2), ⟨kC', hkC'⟩, ⟨kE', hkE'⟩, ?_⟩
        show vm₁.assignable _ _ = true
        rw [hal.assignable]
        exact hasg _ r3)
    (g := F0 κ.2.2.2.2.2.1 pc ls (.int z :: .int dp :: .ref a :: .int sp :: .ref a0 :: st)) rfl c.1 (rest := st) rfl (by rw [show κ.2.2.2.2.2.2.2.2.2.code = cc from h.1.2.1]; exact d) (by show 1 ≤ (cxR κ).frames; rw [h.2.2.2.2.2.1]; exact hn) (by show 2 * 0 + _ + _ ≤ (cxR κ).locals; rw [h.2.2.2.2.2.1]; show _ ≤ 60 * n; have hw : nativeFrameWords "java/lang/System" "arraycopy" 5 ≤ 20 := (by decide); omega)
  have e1 : copied (vp_cell (S.2.2.2 9) (rn ν.2 a0, .inr (.inr (.inr (.inr (rO ν.2 a0)))))) (vp_cell (S.2.2.2 9) (rn ν.2 a, .inr (.inr (.inr (.inr (rO ν.2 a)))))) sp dp z = vp_cell (S.2.2.2 9) (rn ν.2 a, .inr (.inr (.inr (.inr (va_cpy (rO ν.2 a0) (rO ν.2 a) sp.toNatClampNeg dp.toNatClampNeg z.toNatClampNeg))))) := by
    rw [vp_cell_q, vp_cell_q, vp_cell_q]
    exact va_copied (fun z => va_rf z) (S.2.2.2 9) (S.2.2.2 9) (rO ν.2 a0) (rO ν.2 a) h4
  rw [e1] at X' step
  have hl : a < H.size := (Array.getElem?_eq_some_iff.mp hc1).1
  generalize hN : vp_cell (S.2.2.2 9) (rn ν.2 a, .inr (.inr (.inr (.inr (va_cpy (rO ν.2 a0) (rO ν.2 a) sp.toNatClampNeg dp.toNatClampNeg z.toNatClampNeg))))) = cN at X' step
  have hheap : ((T.setVm vm').setCell a cN).heap = H.setIfInBounds a cN := by rw [← hT]; rfl
  have oq : ∀ q : Nat, q ≠ a → (H.setIfInBounds a cN)[q]? = H[q]? := fun q hq => by simp [Array.getElem?_setIfInBounds, Ne.symm hq]
  have es : (H.setIfInBounds a cN)[a]? = some cN := by simp [Array.getElem?_setIfInBounds, hl]
  obtain ⟨t, a1, b1⟩ := K _ rfl (H.setIfInBounds a cN) _ ls cells slots ⟨hi.1.raw hne oq rfl (tOs_o _ _ _) (fun c' r' hc' hr' => by
      have := (List.getElem?_eq_some_iff.mp hr').1
      have : c' < 22 := this
      omega) (fun t' ht' => by
      obtain rfl : t' = 9 := by omega
      rw [es, ← hN]
      show _ = some (vp_cell _ (rn ν.2 a, .inr (.inr (.inr (.inr (rO (tOs ν.2 a _) a))))))
      simp [rO, tOs]), hi.2⟩ ⟨by simp; exact b.1, fun q g1 g2 => by
      rw [oq q (fun e => g2 (by rw [e]; exact hAa))]
      exact b.2.1 q g1 g2, fun q hq => by
      rcases List.mem_append.mp hq with h | h
      · exact b.2.2 q h
      · obtain ⟨z, -, hz⟩ := List.mem_map.mp h
        rw [← hz]
        exact hAa⟩ c _ hheap X'
  exact ⟨t, step t a1, b1⟩
theorem x_castB (pc : Nat) {a : Nat} (ha : rc ν.2 a = 102) (h : XCx κ cc own S A n mc ms) (hq : Cond.classLink own idx "[B" ∈ lw_all) (d : decode cc pc = .ok (.checkcast idx, 3)) (K : XG κ S A mc ms Q (pc + 3) (ν, k0, n0) lv (.ref a :: st)) : XG κ S A mc ms Q pc (ν, k0, n0) lv (.ref a :: st) :=
  fun H locs ls cells slots hi b c => va_castA h.1.1 h.1.2.1 h.1.2.2.1 (h.1.2.2.2 _ hq) (x_rarr hi.1.2.1 (t := 2) ha) 0 rfl (va_nm_byte (h.2.1.1.2 1 _ rfl).2) d (K H locs ls cells slots hi b c)
theorem xg_J2_63_6 (pc : Nat) {o : Nat} (ho : rc ν.2 o = 7) (h : XCx κ cc RJ2 S A n mc ms) (d : decode cc pc = .ok (.getfield 63, 3)) (K : XG κ S A mc ms Q (pc + 3) (ν, k0, n0) lv (.int (rI ν.2 o 0) :: st)) : XG κ S A mc ms Q pc (ν, k0, n0) lv (.ref o :: st) := by
  intro H locs ls cells slots a b q
  exact ob_get (C := RJ2) (T := TJ2) h.1.1 h.1.2.1 h.1.2.2.2 in_J2 h.1.2.2.1 (h.2.1.1.1 6 _ rfl) (a.1.2.1.1 o 6 _ ho rfl) 0 (by decide) (h.1.2.2.2 _ q244) (fun x hx => u_same (h.1.2.2.2 _ q245) x hx) d (K H locs ls cells slots a b q)
theorem xp_J2_63_6 (pc : Nat) {o : Nat} {v : Int32} (ho : rk ν.2 o = 7) (h : XCx κ cc RJ2 S A n mc ms) (d : decode cc pc = .ok (.putfield 63, 3)) (K : ∀ ν1, ν1 = (ν.1, tI ν.2 o 0 v) → XG κ S A mc ms Q (pc + 3) (ν1, k0, n0) lv st) : XG κ S A mc ms Q pc (ν, k0, n0) lv (.int v :: .ref o :: st) := by
  intro H locs ls cells slots a b q
  have a : XI S A ν H ∧ cells + k0 ≤ mc ∧ slots + n0 ≤ ms := a
  have hrc : rc ν.2 o = 6 + 1 := rc_of ho (by omega)
  have hne : rk ν.2 o ≠ 0 := by omega
  refine ob_put (C := RJ2) (T := TJ2) h.1.1 h.1.2.1 h.1.2.2.2 in_J2 tyJ2 tyJ2_ok nmJ2 h.1.2.2.1 (h.2.1.1.1 6 _ rfl) (a.1.2.1.1 o 6 _ hrc rfl) b ((a.1.2.2.1 o hne).2.1 (by omega)) 0 (by decide) (h.1.2.2.2 _ q244) (fun x hx => u_same (h.1.2.2.2 _ q245) x hx) rfl rfl rfl rfl d (fun H1 locs1 hO hz hq1 hS1 => ?_)
  refine K _ rfl H1 locs1 ls cells slots ⟨a.1.raw hne hq1 rfl (tI_o _ _ _ _) (fun c' r' hc' hr' => ?_) (fun t ht => absurd (hrc.symm.trans ht) (by omega)), a.2⟩ hS1 q
  obtain rfl : c' = 6 := by omega
  have e0 : xcl[6]? = some (RJ2, TJ2, 3) := rfl
  cases e0.symm.trans hr'
  refine hO.to (fun j _ => ?_)
  rw [rval_tI rfl]
  by_cases e : j = 0
  · subst e; simp [updV]
  · simp [updV, e]
end JR
