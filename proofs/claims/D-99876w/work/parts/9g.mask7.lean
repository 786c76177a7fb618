/-! THE REFERENCE: ask -/
def Ga (σ σ' : FS) : Prop := (∀ k ∈ ([50, 57, 60, 71, 76, 77, 113] : List Nat), fI σ' 0 k = fI σ 0 k) ∧ (∀ a, a ∉ ([53, 61, 102, 104] : List Nat) → fA σ' a = fA σ a) ∧ fB σ' 41 = fB σ 41 ∧ fL σ' 0 78 = fL σ 0 78
theorem Ga.trans {σ σ' σ'' : FS} (h : Ga σ σ') (g : Ga σ' σ'') : Ga σ σ'' := ⟨fun k hk => (g.1 k hk).trans (h.1 k hk), fun a ha => (g.2.1 a ha).trans (h.2.1 a ha), g.2.2.1.trans h.2.2.1, g.2.2.2.trans h.2.2.2⟩
theorem Ga.of {ks as bs : List Nat} {σ σ' : FS} (f : Fm ks as bs σ σ') (h1 : ∀ k ∈ ([50, 57, 60, 71, 76, 77, 113] : List Nat), k ∉ ks) (h2 : ∀ a ∈ as, a ∈ ([53, 61, 102, 104] : List Nat)) (h3 : 41 ∉ bs) : Ga σ σ' := ⟨fun k hk => f.1 k (h1 k hk), fun a ha => f.2.1 a (fun z => ha (h2 a z)), f.2.2.1 41 h3, by rw [f.2.2.2]⟩
theorem Ga.fl {σ σ' : FS} (f : Fl σ σ') : Ga σ σ' := ⟨fun k hk => f.1 k (by intro z; subst z; exact absurd hk (by decide)), fun a _ => by rw [f.2.1], by rw [f.2.2.1], f.2.2.2⟩
theorem Ga.px {σ σ' : FS} (h : Ga σ σ') : Px σ σ' := by
  refine ⟨fun i _ => ⟨?_, ?_, ?_, ?_⟩, fun i _ => ?_, fun i _ => ?_, fun i _ => ?_⟩
  · rw [h.2.1 39 (by decide)]
  · rw [h.2.1 40 (by decide)]
  · rw [h.2.1 45 (by decide)]
  · rw [h.2.1 46 (by decide)]
  · rw [h.2.1 44 (by decide)]
  · rw [h.2.1 47 (by decide)]
  · rw [h.2.2.1]
theorem mP.ga {σ σ' : FS} {P : Pl} (h : mP σ P) (g : Ga σ σ') : mP σ' P := by
  rcases mPo.px (Or.inl h) g.px (g.1 50 (by decide)) with z | z
  · exact z
  · have := h.1.1
    rw [z.1] at this
    exact absurd this.1 (by decide)
theorem mAll.ga {σ σ' : FS} {Z : Wd} {F : Int32 × Int32} (h : mAll σ Z) (g : Ga σ σ') (hS : mSd σ') (h1 : fI σ' 0 1 = nI 0) (h7 : fI σ' 0 7 = F.1) (h8 : fI σ' 0 8 = F.2) : mAll σ' ((wTp Z, 0), F, Z.2.2) := by
  obtain ⟨g1, g2, g3, g4, g5, g6, g7, g8, g9, g10, g11, g12, g13, g14⟩ := h
  obtain ⟨w1, w2, w3, w4, w5⟩ := g1
  refine ⟨⟨w1, w2, w3, Nat.zero_le _, w5⟩, ⟨h1, ?_⟩, ⟨h7, h8⟩, ?_, mPo.px g5 g.px (g.1 50 (by decide)), g6.eqv (g.2.1 52 (by decide)), ?_, ?_, ?_, ?_, ?_, hS, ?_, ?_⟩
  · rw [g.2.1 0 (by decide)]; exact g2.2
  · rw [g.2.1 9 (by decide)]; exact g4
  · show mKe σ' (zE (wS Z))
    unfold mKe; rw [g.2.1 52 (by decide)]; exact g7
  · show fI σ' 0 71 = _ ∧ _
    rw [g.1 71 (by decide), g.2.1 72 (by decide)]; exact g8
  · show fI σ' 0 76 = _ ∧ _
    rw [g.1 76 (by decide), g.1 77 (by decide), g.2.1 75 (by decide)]; exact g9
  · rw [g.2.2.2]; exact g10
  · show fI σ' 0 113 = _ ∧ _
    rw [g.1 113 (by decide), g.2.1 112 (by decide)]; exact g11
  · rw [g.1 57 (by decide), g.1 60 (by decide)]; exact g13
  · exact g14.fm (fun a z => g.2.1 a (fun q => by
      have : a = 53 ∨ a = 61 ∨ a = 102 ∨ a = 104 := by
        simp only [List.mem_cons, List.not_mem_nil, or_false] at q; omega
      omega))
theorem tkS_in {k p : Nat} {acc v : Int} {first : Bool} (hp : p < 8) (hv : -1000000 ≤ v ∧ v ≤ 1000000) {m : Int} (hm : 0 ≤ m) (ha : -1000000 - m ≤ acc ∧ acc ≤ 1000000 + m) : -1000000 - (m + 1000000) ≤ tkS k acc first v p ∧ tkS k acc first v p ≤ 1000000 + (m + 1000000) := by
  unfold tkS
  repeat' split
  all_goals omega
theorem evA_in {P : Pl} {s : St} {p : Nat} {cs : List Nat} {kd : Bool} (hP : plOK P) (hN : stOK P s) (hp : p < nP P) (hty : tyL al2 cs [] = some [kd]) : -1000000 ≤ evV (zPt s p 0 0) (lkA P s p) cs ∧ evV (zPt s p 0 0) (lkA P s p) cs ≤ 1000000 := by
  have hpt := zPt_in hP hN hp (show 0 < 1000 by decide) (show 0 < 1000 by decide)
  have fit : ∀ (cs : List Nat) (k k' : List Bool) (l : List Int), tyL al2 cs k = some k' → fitV k l → fitV k' (evL (zPt s p 0 0) (lkA P s p) cs l) := by
    intro cs
    induction cs with
    | nil => intro k k' l h hf; simp only [tyL] at h; cases h; exact hf
    | cons c cs ih =>
      intro k k' l h hf
      simp only [tyL] at h
      cases hs : tyS al2 c k with
      | none => rw [hs] at h; cases h
      | some k1 =>
        rw [hs] at h
        exact ih k1 k' _ h (evS_fit (lk := lkA P s p) (fun i hi _ => hpt i hi) hs hf)
  obtain ⟨v, e1, e2⟩ := fitV_one (fit cs [] [kd] [] hty trivial)
  unfold evV
  rw [e1]
  show -1000000 ≤ v ∧ v ≤ 1000000
  cases kd with
  | true => simp only [if_true] at e2; omega
  | false => simpa using e2
