/-! THE REFERENCE: its memory as the specification's; asking -/
def c7 (c : Nat) : Nat := c % 8 + 7 * (c / 8)
theorem isC_lt {P : Pl} (hP : plOK P) {c : Nat} (h : isC P c) : c % 8 < 7 ∧ c / 8 < 7 := ⟨Nat.lt_of_lt_of_le h.1 hP.1.2, Nat.lt_of_lt_of_le h.2 hP.2.1.2⟩
theorem c7_lt {P : Pl} (hP : plOK P) {c : Nat} (h : isC P c) : c7 c < 49 := by have := isC_lt hP h; unfold c7; omega
theorem c7_inj {c d : Nat} (hc : c % 8 < 7) (hd : d % 8 < 7) (h : c7 c = c7 d) : c = d := by unfold c7 at h; omega
theorem c7_mod {c : Nat} (hc : c % 8 < 7) : c7 c % 7 = c % 8 := by unfold c7; omega
theorem c7_div {c : Nat} (hc : c % 8 < 7) : c7 c / 7 = c / 8 := by unfold c7; omega
def enc (w : List Nat) : Nat := w.foldl (fun v c => 27 * v + (c - 96)) 0
def mCd (σ : FS) (w : Nat) (o : Option (List Nat)) : Prop := match o with
  | none => fA σ 45 (3 + w) = M1
  | some cs => ∃ f, fA σ 45 (3 + w) = nI f ∧ fA σ 46 (3 + w) = nI (f + cs.length) ∧ f + cs.length ≤ 1600 ∧ ∀ i c, cs[i]? = some c → fA σ 47 (1600 + (f + i)) = nI c
def mP (σ : FS) (P : Pl) : Prop := plOK P ∧ fI σ 0 50 = nI 1 ∧ (fA σ 39 3 = nI (plC P) ∧ fA σ 39 4 = nI (plR P) ∧ fA σ 39 5 = nI (plW P)) ∧ (fA σ 40 3 = nI (nT P) ∧ fA σ 40 4 = nI (nP P) ∧ fA σ 40 5 = nI (plL P).length) ∧ (∀ (k : Nat) q, (plL P)[k]? = some q → fA σ 44 (24 + 2 * k) = nI q.1 ∧ fA σ 44 (25 + 2 * k) = nI q.2) ∧ (mCd σ 0 (plF P) ∧ mCd σ 1 (plG P) ∧ mCd σ 2 (plH P)) ∧ (∀ (k : Nat) w, (plT P)[k]? = some w → fB σ 41 (16 + k) = lI (enc w)) ∧ ∀ (k : Nat) w, (plN P)[k]? = some w → fB σ 41 (24 + k) = lI (enc w)
def mNf (f : Nat → Int32) (P : Pl) (s : St) : Prop := f 0 = nI (zD s) ∧ (∀ c, isC P c → f (1 + c7 c) = nI (zH s c)) ∧ ∀ p, p < nP P → f (50 + 3 * p) = nI (c7 (zA s p)) ∧ f (51 + 3 * p) = nI (zT s p) ∧ f (52 + 3 * p) = nI (zK s p)
def mN (σ : FS) (P : Pl) (s : St) : Prop := stOK P s ∧ mNf (fA σ 52) P s
/-- nothing but these changes -/
def Fm (ks as bs : List Nat) (σ σ' : FS) : Prop := (∀ k, k ∉ ks → fI σ' 0 k = fI σ 0 k) ∧ (∀ a, a ∉ as → fA σ' a = fA σ a) ∧ (∀ a, a ∉ bs → fB σ' a = fB σ a) ∧ fL σ' = fL σ
theorem Fm.refl (ks as bs : List Nat) (σ : FS) : Fm ks as bs σ σ := ⟨fun _ _ => rfl, fun _ _ => rfl, fun _ _ => rfl, rfl⟩
theorem Fm.trans {ks as bs : List Nat} {σ σ' σ'' : FS} (h : Fm ks as bs σ σ') (g : Fm ks as bs σ' σ'') : Fm ks as bs σ σ'' := ⟨fun k hk => (g.1 k hk).trans (h.1 k hk), fun k hk => (g.2.1 k hk).trans (h.2.1 k hk), fun k hk => (g.2.2.1 k hk).trans (h.2.2.1 k hk), g.2.2.2.trans h.2.2.2⟩
theorem Fm.wide {ks as bs ks' as' bs' : List Nat} {σ σ' : FS} (h : Fm ks as bs σ σ') (h1 : ∀ k ∈ ks, k ∈ ks') (h2 : ∀ k ∈ as, k ∈ as') (h3 : ∀ k ∈ bs, k ∈ bs') : Fm ks' as' bs' σ σ' := ⟨fun k hk => h.1 k (fun z => hk (h1 k z)), fun k hk => h.2.1 k (fun z => hk (h2 k z)), fun k hk => h.2.2.1 k (fun z => hk (h3 k z)), h.2.2.2⟩
theorem Fm.sI {ks as bs : List Nat} (σ : FS) {k : Nat} (v : Int32) (hk : k ∈ ks) : Fm ks as bs σ (sI σ 0 k v) := ⟨fun j hj => by rw [fI_sI, if_neg (fun z : 0 = 0 ∧ j = k => hj (z.2 ▸ hk))], fun _ _ => rfl, fun _ _ => rfl, rfl⟩
theorem Fm.sA {ks as bs : List Nat} (σ : FS) {a : Nat} (k : Nat) (v : Int32) (hk : a ∈ as) : Fm ks as bs σ (sA σ a k v) := ⟨fun _ _ => rfl, fun j hj => by funext i; rw [fA_sA, if_neg (fun z : j = a ∧ i = k => hj (z.1 ▸ hk))], fun _ _ => rfl, rfl⟩
theorem Fm.sB {ks as bs : List Nat} (σ : FS) {a : Nat} (k : Nat) (v : Int64) (hk : a ∈ bs) : Fm ks as bs σ (sB σ a k v) := ⟨fun _ _ => rfl, fun _ _ => rfl, fun j hj => by funext i; rw [fB_sB, if_neg (fun z : j = a ∧ i = k => hj (z.1 ▸ hk))], rfl⟩
theorem mCd.eqv {σ σ' : FS} {w : Nat} {o : Option (List Nat)} (h : mCd σ w o) (h1 : fA σ' 45 = fA σ 45) (h2 : fA σ' 46 = fA σ 46) (h3 : fA σ' 47 = fA σ 47) : mCd σ' w o := by
  unfold mCd at h ⊢
  cases o with
  | none => simpa only [h1] using h
  | some cs => simpa only [h1, h2, h3] using h
theorem mP.fm {ks as bs : List Nat} {σ σ' : FS} {P : Pl} (h : mP σ P) (f : Fm ks as bs σ σ') (hk : 50 ∉ ks) (ha : ∀ a ∈ ([39, 40, 44, 45, 46, 47] : List Nat), a ∉ as) (hb : 41 ∉ bs) : mP σ' P := by
  obtain ⟨h0, h1, h2, h3, h4, h5, h6, h7⟩ := h
  have e39 := f.2.1 39 (ha 39 (by decide)); have e40 := f.2.1 40 (ha 40 (by decide)); have e44 := f.2.1 44 (ha 44 (by decide))
  have e45 := f.2.1 45 (ha 45 (by decide)); have e46 := f.2.1 46 (ha 46 (by decide)); have e47 := f.2.1 47 (ha 47 (by decide))
  have e41 := f.2.2.1 41 hb
  refine ⟨h0, (f.1 50 hk).trans h1, ?_, ?_, ?_, ⟨h5.1.eqv e45 e46 e47, h5.2.1.eqv e45 e46 e47, h5.2.2.eqv e45 e46 e47⟩, ?_, ?_⟩
  · rw [e39]; exact h2
  · rw [e40]; exact h3
  · rw [e44]; exact h4
  · rw [e41]; exact h6
  · rw [e41]; exact h7
theorem mN.eqv {σ σ' : FS} {P : Pl} {s : St} (h : mN σ P s) (e : fA σ' 52 = fA σ 52) : mN σ' P s := ⟨h.1, by rw [e]; exact h.2⟩
theorem ml_heightOf {σ : FS} {P : Pl} {s : St} {c : Nat} {Q : Int32 → FS → Prop} (hP : mP σ P) (hN : mN σ P s) (hc : isC P c) (hQ : Q (nI (zH s c)) σ) : mw_heightOf (nI (c7 c)) σ Q := by
  have h7 := c7_lt hP.1 hc
  unfold mw_heightOf
  simp (disch := omega) only [i_0, i_1, i_2, i_3, i_4, i_5, i_6, i_7, i_8, i_9, i_10, i_11, i_12, i_13, i_16, i_19, i_20, i_21, i_22, i_23, i_24, i_25, i_30, i_31, i_32, i_39, i_40, i_41, i_42, i_43, i_44, i_45, i_47, i_48, i_49, i_50, i_51, i_52, i_57, i_59, i_60, i_61, i_62, i_63, i_64, i_71, i_72, i_80, i_91, i_93, i_97, i_99, i_100, i_122, i_227, i_228, i_232, i_251, i_255, i_256, i_463, i_999, i_1000, i_1519, i_1600, i_9999, i_100000000, i_2147483639, i_2147483647, neg_nI1, nI_add, pk_mul, nI_remL, pk_sub, pk_div, nI_clamp, nI_leI, nI_ltI, nI_eq, vpT, nI_m1, m1_nI, nI_lem1, m1_le, m1_lt, nI_ltm1, nI_bit, nI_shl, nI_xor, nI_or, n_rem, forall_eq, true_and, and_true, implies_true, true_implies, false_implies, not_true_eq_false, not_false_eq_true, Nat.zero_add, Nat.add_zero, ite_true, ite_false, if_true, if_false, true_or, or_true, false_or, or_false, and_self, and_false, false_and, Nat.reduceEqDiff, reduceIte]
  rw [hN.2.2.1 c hc]; exact hQ
theorem ml_cellOf {σ : FS} {P : Pl} {s : St} {p : Nat} {Q : Int32 → FS → Prop} (hP : mP σ P) (hN : mN σ P s) (hp : p < nP P) (hQ : Q (nI (c7 (zA s p))) σ) : mw_cellOf (nI p) σ Q := by
  have h7 := hP.1.2.2.2.2.1
  unfold mw_cellOf
  simp (disch := omega) only [i_0, i_1, i_2, i_3, i_4, i_5, i_6, i_7, i_8, i_9, i_10, i_11, i_12, i_13, i_16, i_19, i_20, i_21, i_22, i_23, i_24, i_25, i_30, i_31, i_32, i_39, i_40, i_41, i_42, i_43, i_44, i_45, i_47, i_48, i_49, i_50, i_51, i_52, i_57, i_59, i_60, i_61, i_62, i_63, i_64, i_71, i_72, i_80, i_91, i_93, i_97, i_99, i_100, i_122, i_227, i_228, i_232, i_251, i_255, i_256, i_463, i_999, i_1000, i_1519, i_1600, i_9999, i_100000000, i_2147483639, i_2147483647, neg_nI1, nI_add, pk_mul, nI_remL, pk_sub, pk_div, nI_clamp, nI_leI, nI_ltI, nI_eq, vpT, nI_m1, m1_nI, nI_lem1, m1_le, m1_lt, nI_ltm1, nI_bit, nI_shl, nI_xor, nI_or, n_rem, forall_eq, true_and, and_true, implies_true, true_implies, false_implies, not_true_eq_false, not_false_eq_true, Nat.zero_add, Nat.add_zero, ite_true, ite_false, if_true, if_false, true_or, or_true, false_or, or_false, and_self, and_false, false_and, Nat.reduceEqDiff, reduceIte]
  rw [(hN.2.2.2 p hp).1]; exact hQ
theorem ml_tiredOf {σ : FS} {P : Pl} {s : St} {p : Nat} {Q : Int32 → FS → Prop} (hP : mP σ P) (hN : mN σ P s) (hp : p < nP P) (hQ : Q (nI (zT s p)) σ) : mw_tiredOf (nI p) σ Q := by
  have h7 := hP.1.2.2.2.2.1
  unfold mw_tiredOf
  simp (disch := omega) only [i_0, i_1, i_2, i_3, i_4, i_5, i_6, i_7, i_8, i_9, i_10, i_11, i_12, i_13, i_16, i_19, i_20, i_21, i_22, i_23, i_24, i_25, i_30, i_31, i_32, i_39, i_40, i_41, i_42, i_43, i_44, i_45, i_47, i_48, i_49, i_50, i_51, i_52, i_57, i_59, i_60, i_61, i_62, i_63, i_64, i_71, i_72, i_80, i_91, i_93, i_97, i_99, i_100, i_122, i_227, i_228, i_232, i_251, i_255, i_256, i_463, i_999, i_1000, i_1519, i_1600, i_9999, i_100000000, i_2147483639, i_2147483647, neg_nI1, nI_add, pk_mul, nI_remL, pk_sub, pk_div, nI_clamp, nI_leI, nI_ltI, nI_eq, vpT, nI_m1, m1_nI, nI_lem1, m1_le, m1_lt, nI_ltm1, nI_bit, nI_shl, nI_xor, nI_or, n_rem, forall_eq, true_and, and_true, implies_true, true_implies, false_implies, not_true_eq_false, not_false_eq_true, Nat.zero_add, Nat.add_zero, ite_true, ite_false, if_true, if_false, true_or, or_true, false_or, or_false, and_self, and_false, false_and, Nat.reduceEqDiff, reduceIte]
  rw [(hN.2.2.2 p hp).2.1]; exact hQ
theorem ml_knowsOf {σ : FS} {P : Pl} {s : St} {p : Nat} {Q : Int32 → FS → Prop} (hP : mP σ P) (hN : mN σ P s) (hp : p < nP P) (hQ : Q (nI (zK s p)) σ) : mw_knowsOf (nI p) σ Q := by
  have h7 := hP.1.2.2.2.2.1
  unfold mw_knowsOf
  simp (disch := omega) only [i_0, i_1, i_2, i_3, i_4, i_5, i_6, i_7, i_8, i_9, i_10, i_11, i_12, i_13, i_16, i_19, i_20, i_21, i_22, i_23, i_24, i_25, i_30, i_31, i_32, i_39, i_40, i_41, i_42, i_43, i_44, i_45, i_47, i_48, i_49, i_50, i_51, i_52, i_57, i_59, i_60, i_61, i_62, i_63, i_64, i_71, i_72, i_80, i_91, i_93, i_97, i_99, i_100, i_122, i_227, i_228, i_232, i_251, i_255, i_256, i_463, i_999, i_1000, i_1519, i_1600, i_9999, i_100000000, i_2147483639, i_2147483647, neg_nI1, nI_add, pk_mul, nI_remL, pk_sub, pk_div, nI_clamp, nI_leI, nI_ltI, nI_eq, vpT, nI_m1, m1_nI, nI_lem1, m1_le, m1_lt, nI_ltm1, nI_bit, nI_shl, nI_xor, nI_or, n_rem, forall_eq, true_and, and_true, implies_true, true_implies, false_implies, not_true_eq_false, not_false_eq_true, Nat.zero_add, Nat.add_zero, ite_true, ite_false, if_true, if_false, true_or, or_true, false_or, or_false, and_self, and_false, false_and, Nat.reduceEqDiff, reduceIte]
  rw [(hN.2.2.2 p hp).2.2]; exact hQ
theorem popc_step : ∀ n, n < 128 → n ≠ 0 → (n &&& (n - 1)) < 128 ∧ popc (n &&& (n - 1)) + 1 = popc n := by decide
theorem popc_zero : ∀ n, n < 128 → popc n = 0 → n = 0 := by decide
theorem popc_le : ∀ n, n < 128 → popc n ≤ 7 := by decide
theorem ml_bits {σ : FS} {n : Nat} {Q : Int32 → FS → Prop} (hn : n < 128) (hQ : Q (nI (popc n)) σ) : mw_bits (nI n) σ Q := by
  unfold mw_bits mw_bits_4
  intro X hX
  have key : ∀ m a k, k < 128 → popc k = m → Q (nI (a + m)) σ → X (nI a) (nI k) σ := by
    intro m
    induction m with
    | zero =>
      intro a k hk hm hq
      obtain rfl := popc_zero k hk hm
      exact hX _ _ _ ⟨fun _ => hq, fun c => absurd rfl c⟩
    | succ m ih =>
      intro a k hk hm hq
      have h0 : k ≠ 0 := fun z => by subst z; rw [show popc 0 = 0 from by decide] at hm; omega
      obtain ⟨h1, h2⟩ := popc_step k hk h0
      refine hX _ _ _ ⟨fun c => absurd c (nI_ne0 (by omega) (by omega)), fun _ => ?_⟩
      rw [nI_1, i_1, pk_sub (by omega), nI_and]
      exact ih _ _ h1 (by omega) (by rw [show a + 1 + m = a + (m + 1) by omega]; exact hq)
  exact key _ 0 n hn rfl (by rw [Nat.zero_add]; exact hQ)
/-- the pile -/
def pil (b : Nat → Int64) : List Int → Prop
  | [] => True
  | v :: r => b r.length = lI v ∧ pil b r
theorem pil_eq {b b' : Nat → Int64} : ∀ {l : List Int}, pil b l → (∀ i, i < l.length → b' i = b i) → pil b' l
  | [], _, _ => trivial
  | v :: r, h, e => ⟨(e _ (by simp)).trans h.1, pil_eq h.2 (fun i hi => e i (by simp; omega))⟩
def mPi (σ : FS) (l : List Int) : Prop := fI σ 0 109 = nI l.length ∧ pil (fB σ 108) l
theorem ml_puts {σ : FS} {l : List Int} {v : Int} {Q : FS → Prop} (h : mPi σ l) (hl : l.length < 1700) (hQ : ∀ σ', Fm [109] [] [108] σ σ' → mPi σ' (v :: l) → Q σ') : mw_qPuts (lI v) σ Q := by
  unfold mw_qPuts
  rw [h.1]
  simp (disch := omega) only [i_0, i_1, i_2, i_3, i_4, i_5, i_6, i_7, i_8, i_9, i_10, i_11, i_12, i_13, i_16, i_19, i_20, i_21, i_22, i_23, i_24, i_25, i_30, i_31, i_32, i_39, i_40, i_41, i_42, i_43, i_44, i_45, i_47, i_48, i_49, i_50, i_51, i_52, i_57, i_59, i_60, i_61, i_62, i_63, i_64, i_71, i_72, i_80, i_91, i_93, i_97, i_99, i_100, i_122, i_227, i_228, i_232, i_251, i_255, i_256, i_463, i_999, i_1000, i_1519, i_1600, i_9999, i_100000000, i_2147483639, i_2147483647, neg_nI1, nI_add, pk_mul, nI_remL, pk_sub, pk_div, nI_clamp, nI_leI, nI_ltI, nI_eq, vpT, nI_m1, m1_nI, nI_lem1, m1_le, m1_lt, nI_ltm1, nI_bit, nI_shl, nI_xor, nI_or, n_rem, forall_eq, true_and, and_true, implies_true, true_implies, false_implies, not_true_eq_false, not_false_eq_true, Nat.zero_add, Nat.add_zero, ite_true, ite_false, if_true, if_false, true_or, or_true, false_or, or_false, and_self, and_false, false_and, Nat.reduceEqDiff, reduceIte, fI_sI, fI_sL, fI_sA, fI_sB, fL_sI, fL_sL, fL_sA, fL_sB, fA_sI, fA_sL, fA_sA, fA_sB, fB_sI, fB_sL, fB_sA, fB_sB]
  rw [h.1]
  simp (disch := omega) only [i_0, i_1, i_2, i_3, i_4, i_5, i_6, i_7, i_8, i_9, i_10, i_11, i_12, i_13, i_16, i_19, i_20, i_21, i_22, i_23, i_24, i_25, i_30, i_31, i_32, i_39, i_40, i_41, i_42, i_43, i_44, i_45, i_47, i_48, i_49, i_50, i_51, i_52, i_57, i_59, i_60, i_61, i_62, i_63, i_64, i_71, i_72, i_80, i_91, i_93, i_97, i_99, i_100, i_122, i_227, i_228, i_232, i_251, i_255, i_256, i_463, i_999, i_1000, i_1519, i_1600, i_9999, i_100000000, i_2147483639, i_2147483647, neg_nI1, nI_add, pk_mul, nI_remL, pk_sub, pk_div, nI_clamp, nI_leI, nI_ltI, nI_eq, vpT, nI_m1, m1_nI, nI_lem1, m1_le, m1_lt, nI_ltm1, nI_bit, nI_shl, nI_xor, nI_or, n_rem, forall_eq, true_and, and_true, implies_true, true_implies, false_implies, not_true_eq_false, not_false_eq_true, Nat.zero_add, Nat.add_zero, ite_true, ite_false, if_true, if_false, true_or, or_true, false_or, or_false, and_self, and_false, false_and, Nat.reduceEqDiff, reduceIte, fI_sI, fI_sL, fI_sA, fI_sB, fL_sI, fL_sL, fL_sA, fL_sB, fA_sI, fA_sL, fA_sA, fA_sB, fB_sI, fB_sL, fB_sA, fB_sB]
  refine hQ _ ((Fm.sB σ _ _ (by decide)).trans (Fm.sI _ _ (by decide))) ⟨?_, ?_, ?_⟩
  · simp (disch := omega) only [i_0, i_1, i_2, i_3, i_4, i_5, i_6, i_7, i_8, i_9, i_10, i_11, i_12, i_13, i_16, i_19, i_20, i_21, i_22, i_23, i_24, i_25, i_30, i_31, i_32, i_39, i_40, i_41, i_42, i_43, i_44, i_45, i_47, i_48, i_49, i_50, i_51, i_52, i_57, i_59, i_60, i_61, i_62, i_63, i_64, i_71, i_72, i_80, i_91, i_93, i_97, i_99, i_100, i_122, i_227, i_228, i_232, i_251, i_255, i_256, i_463, i_999, i_1000, i_1519, i_1600, i_9999, i_100000000, i_2147483639, i_2147483647, neg_nI1, nI_add, pk_mul, nI_remL, pk_sub, pk_div, nI_clamp, nI_leI, nI_ltI, nI_eq, vpT, nI_m1, m1_nI, nI_lem1, m1_le, m1_lt, nI_ltm1, nI_bit, nI_shl, nI_xor, nI_or, n_rem, forall_eq, true_and, and_true, implies_true, true_implies, false_implies, not_true_eq_false, not_false_eq_true, Nat.zero_add, Nat.add_zero, ite_true, ite_false, if_true, if_false, true_or, or_true, false_or, or_false, and_self, and_false, false_and, Nat.reduceEqDiff, reduceIte, fI_sI, fI_sL, fI_sA, fI_sB, fL_sI, fL_sL, fL_sA, fL_sB, fA_sI, fA_sL, fA_sA, fA_sB, fB_sI, fB_sL, fB_sA, fB_sB]; simp
  · simp (disch := omega) only [i_0, i_1, i_2, i_3, i_4, i_5, i_6, i_7, i_8, i_9, i_10, i_11, i_12, i_13, i_16, i_19, i_20, i_21, i_22, i_23, i_24, i_25, i_30, i_31, i_32, i_39, i_40, i_41, i_42, i_43, i_44, i_45, i_47, i_48, i_49, i_50, i_51, i_52, i_57, i_59, i_60, i_61, i_62, i_63, i_64, i_71, i_72, i_80, i_91, i_93, i_97, i_99, i_100, i_122, i_227, i_228, i_232, i_251, i_255, i_256, i_463, i_999, i_1000, i_1519, i_1600, i_9999, i_100000000, i_2147483639, i_2147483647, neg_nI1, nI_add, pk_mul, nI_remL, pk_sub, pk_div, nI_clamp, nI_leI, nI_ltI, nI_eq, vpT, nI_m1, m1_nI, nI_lem1, m1_le, m1_lt, nI_ltm1, nI_bit, nI_shl, nI_xor, nI_or, n_rem, forall_eq, true_and, and_true, implies_true, true_implies, false_implies, not_true_eq_false, not_false_eq_true, Nat.zero_add, Nat.add_zero, ite_true, ite_false, if_true, if_false, true_or, or_true, false_or, or_false, and_self, and_false, false_and, Nat.reduceEqDiff, reduceIte, fI_sI, fI_sL, fI_sA, fI_sB, fL_sI, fL_sL, fL_sA, fL_sB, fA_sI, fA_sL, fA_sA, fA_sB, fB_sI, fB_sL, fB_sA, fB_sB]
  · refine pil_eq h.2 (fun i hi => ?_)
    rw [fB_sI, fB_sB, if_neg (by omega)]
theorem ml_clip {σ : FS} {z : Int} {Q : Int64 → FS → Prop} (h1 : -1000000000000 ≤ z) (h2 : z ≤ 1000000000000) (hQ : Q (lI (clp z)) σ) : mw_qClip (lI z) σ Q := by
  unfold mw_qClip
  unfold clp at hQ
  simp (disch := omega) only [i_0, i_1, i_2, i_3, i_4, i_5, i_6, i_7, i_8, i_9, i_10, i_11, i_12, i_13, i_16, i_19, i_20, i_21, i_22, i_23, i_24, i_25, i_30, i_31, i_32, i_39, i_40, i_41, i_42, i_43, i_44, i_45, i_47, i_48, i_49, i_50, i_51, i_52, i_57, i_59, i_60, i_61, i_62, i_63, i_64, i_71, i_72, i_80, i_91, i_93, i_97, i_99, i_100, i_122, i_227, i_228, i_232, i_251, i_255, i_256, i_463, i_999, i_1000, i_1519, i_1600, i_9999, i_100000000, i_2147483639, i_2147483647, neg_nI1, nI_add, pk_mul, nI_remL, pk_sub, pk_div, nI_clamp, nI_leI, nI_ltI, nI_eq, vpT, nI_m1, m1_nI, nI_lem1, m1_le, m1_lt, nI_ltm1, nI_bit, nI_shl, nI_xor, nI_or, n_rem, l_0, l_1, l_9, l_27, l_64, l_12345, l_1000000, l_1103515245, l_2147483648, l_1000000000000000, lI_neg, lI_add, lI_sub, lI_mul, lgc_le, lgc_ge, lgc_eq, lgc_lt, lgc_gt, nI_toL, lI_toI, lI_le, lI_lt, lI_eq]
  refine ⟨fun c => ⟨fun c2 => ?_, fun c2 => ?_⟩, fun c => ?_⟩
  · rw [if_neg (by omega), if_neg (by omega)] at hQ; exact hQ
  · rw [if_neg (by omega), if_pos (by omega)] at hQ; exact hQ
  · rw [if_pos (by omega)] at hQ; exact hQ
theorem lI_div {a b : Int} (h1 : -1000000000000 ≤ a) (h2 : a ≤ 1000000000000) (h3 : -1000000000000 ≤ b) (h4 : b ≤ 1000000000000) : lI a / lI b = lI (a.tdiv b) := by
  refine (Int64.ofInt_tdiv ?_ ?_ ?_ ?_).symm
  · have : Int64.minValue.toInt = -2 ^ 63 := by decide
    omega
  · have : Int64.maxValue.toInt = 2 ^ 63 - 1 := by decide
    omega
  · have : Int64.minValue.toInt = -2 ^ 63 := by decide
    omega
  · have : Int64.maxValue.toInt = 2 ^ 63 - 1 := by decide
    omega
theorem tdiv_rem (a b : Int) : a - a.tdiv b * b = a.tmod b := by
  have := Int.mul_tdiv_add_tmod a b
  rw [Int.mul_comm] at this
  omega
theorem ml_floor {σ : FS} {a b : Int} {Q : Int64 → FS → Prop} (ha : -1000000 ≤ a ∧ a ≤ 1000000) (hb : -1000000 ≤ b ∧ b ≤ 1000000) (hQ : Q (lI (if b = 0 then 0 else a.fdiv b)) σ) : mw_qFloor (lI a) (lI b) σ Q := by
  have hm : -1000000 ≤ a.tmod b ∧ a.tmod b ≤ 1000000 := by
    have h1 := Int.natAbs_tmod a b
    have h2 : a.natAbs % b.natAbs ≤ a.natAbs := Nat.mod_le _ _
    omega
  have e1 : lI a - lI a / lI b * lI b = lI (a.tmod b) := by rw [lI_div (by omega) (by omega) (by omega) (by omega), lI_mul, lI_sub, tdiv_rem]
  unfold mw_qFloor
  rw [e1, lI_div (by omega) (by omega) (by omega) (by omega)]
  simp (disch := omega) only [i_0, i_1, i_2, i_3, i_4, i_5, i_6, i_7, i_8, i_9, i_10, i_11, i_12, i_13, i_16, i_19, i_20, i_21, i_22, i_23, i_24, i_25, i_30, i_31, i_32, i_39, i_40, i_41, i_42, i_43, i_44, i_45, i_47, i_48, i_49, i_50, i_51, i_52, i_57, i_59, i_60, i_61, i_62, i_63, i_64, i_71, i_72, i_80, i_91, i_93, i_97, i_99, i_100, i_122, i_227, i_228, i_232, i_251, i_255, i_256, i_463, i_999, i_1000, i_1519, i_1600, i_9999, i_100000000, i_2147483639, i_2147483647, neg_nI1, nI_add, pk_mul, nI_remL, pk_sub, pk_div, nI_clamp, nI_leI, nI_ltI, nI_eq, vpT, nI_m1, m1_nI, nI_lem1, m1_le, m1_lt, nI_ltm1, nI_bit, nI_shl, nI_xor, nI_or, n_rem, l_0, l_1, l_9, l_27, l_64, l_12345, l_1000000, l_1103515245, l_2147483648, l_1000000000000000, lI_neg, lI_add, lI_sub, lI_mul, lgc_le, lgc_ge, lgc_eq, lgc_lt, lgc_gt, nI_toL, lI_toI, lI_le, lI_lt, lI_eq]
  refine ⟨fun c => ⟨c, c, fun c2 => ?_, fun c2 => ?_⟩, fun c => ?_⟩
  · rw [if_neg c, Int.fdiv_eq_tdiv, if_pos (Int.dvd_of_tmod_eq_zero c2), Int.sub_zero] at hQ; exact hQ
  · have hd : ¬ b ∣ a := fun z => c2 (Int.tmod_eq_zero_of_dvd z)
    rw [if_neg c, Int.fdiv_eq_tdiv, if_neg hd] at hQ
    unfold mw_qFloor_32 mw_qFloor_43
    simp (disch := omega) only [i_0, i_1, i_2, i_3, i_4, i_5, i_6, i_7, i_8, i_9, i_10, i_11, i_12, i_13, i_16, i_19, i_20, i_21, i_22, i_23, i_24, i_25, i_30, i_31, i_32, i_39, i_40, i_41, i_42, i_43, i_44, i_45, i_47, i_48, i_49, i_50, i_51, i_52, i_57, i_59, i_60, i_61, i_62, i_63, i_64, i_71, i_72, i_80, i_91, i_93, i_97, i_99, i_100, i_122, i_227, i_228, i_232, i_251, i_255, i_256, i_463, i_999, i_1000, i_1519, i_1600, i_9999, i_100000000, i_2147483639, i_2147483647, neg_nI1, nI_add, pk_mul, nI_remL, pk_sub, pk_div, nI_clamp, nI_leI, nI_ltI, nI_eq, vpT, nI_m1, m1_nI, nI_lem1, m1_le, m1_lt, nI_ltm1, nI_bit, nI_shl, nI_xor, nI_or, n_rem, l_0, l_1, l_9, l_27, l_64, l_12345, l_1000000, l_1103515245, l_2147483648, l_1000000000000000, lI_neg, lI_add, lI_sub, lI_mul, lgc_le, lgc_ge, lgc_eq, lgc_lt, lgc_gt, nI_toL, lI_toI, lI_le, lI_lt, lI_eq]
    refine ⟨fun c3 => ⟨fun c4 => ⟨fun _ => ?_, fun z => ?_⟩, fun c4 => ⟨fun z => ?_, fun _ => ?_⟩⟩, fun c3 => ⟨fun c4 => ⟨fun z => ?_, fun _ => ?_⟩, fun c4 => ⟨fun _ => ?_, fun z => ?_⟩⟩⟩
    · rw [if_pos c3, if_pos c4, Int.sub_zero] at hQ; exact hQ
    · exact absurd trivial z
    · exact absurd z (by decide)
    · rw [if_pos c3, if_neg c4] at hQ; exact hQ
    · exact absurd z (by decide)
    · rw [if_neg c3, if_pos c4, Int.sign_eq_one_of_pos (by omega)] at hQ; exact hQ
    · rw [if_neg c3, if_neg c4, Int.sign_eq_neg_one_of_neg (by omega), show (1 : Int) + -1 = 0 from rfl, Int.sub_zero] at hQ; exact hQ
    · exact absurd trivial z
  · rw [if_pos c] at hQ; exact hQ
