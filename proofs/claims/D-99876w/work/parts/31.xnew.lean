/-! THE SYSTEM's NEW CELLS -/
theorem xdv_1 (S : Adr) (j : Nat) (hj : j < 11) (ρ : RS) (a : Nat) (h1 : ∀ q, rI ρ a q = 0) (h2 : ∀ q, rL ρ a q = 0) (h3 : ∀ q, rO ρ a q = none) : defaultValue (tyX1 j) = rval S ρ 1 a j := match j, hj with
  | 0, _ => (congrArg Value.int (h1 0)).symm
  | 1, _ => (congrArg Value.int (h1 1)).symm
  | 2, _ => (congrArg Value.int (h1 2)).symm
  | 3, _ => (congrArg Value.int (h1 3)).symm
  | 4, _ => (congrArg va_rf (h3 4)).symm
  | 5, _ => (congrArg va_rf (h3 5)).symm
  | 6, _ => (congrArg va_rf (h3 6)).symm
  | 7, _ => (congrArg va_rf (h3 7)).symm
  | 8, _ => (congrArg va_rf (h3 8)).symm
  | 9, _ => (congrArg va_rf (h3 9)).symm
  | 10, _ => (congrArg va_rf (h3 10)).symm
  | j + 11, h => absurd h (by omega)
theorem xdv_6 (S : Adr) (j : Nat) (hj : j < 3) (ρ : RS) (a : Nat) (h1 : ∀ q, rI ρ a q = 0) (h2 : ∀ q, rL ρ a q = 0) (h3 : ∀ q, rO ρ a q = none) : defaultValue (tyJ2 j) = rval S ρ 6 a j := match j, hj with
  | 0, _ => (congrArg Value.int (h1 0)).symm
  | 1, _ => (congrArg va_rf (h3 1)).symm
  | 2, _ => (congrArg Value.int (h1 2)).symm
  | j + 3, h => absurd h (by omega)
theorem xdv_7 (S : Adr) (j : Nat) (hj : j < 1) (ρ : RS) (a : Nat) (h1 : ∀ q, rI ρ a q = 0) (h2 : ∀ q, rL ρ a q = 0) (h3 : ∀ q, rO ρ a q = none) : defaultValue (tyX7 j) = rval S ρ 7 a j := match j, hj with
  | 0, _ => (congrArg va_rf (h3 0)).symm
  | j + 1, h => absurd h (by omega)
theorem xdv_8 (S : Adr) (j : Nat) (hj : j < 4) (ρ : RS) (a : Nat) (h1 : ∀ q, rI ρ a q = 0) (h2 : ∀ q, rL ρ a q = 0) (h3 : ∀ q, rO ρ a q = none) : defaultValue (tyX8 j) = rval S ρ 8 a j := match j, hj with
  | 0, _ => (congrArg va_rf (h3 0)).symm
  | 1, _ => (congrArg Value.int (h1 1)).symm
  | 2, _ => (congrArg Value.int (h1 2)).symm
  | 3, _ => (congrArg Value.int (h1 3)).symm
  | j + 4, h => absurd h (by omega)
theorem xdv_9 (S : Adr) (j : Nat) (hj : j < 2) (ρ : RS) (a : Nat) (h1 : ∀ q, rI ρ a q = 0) (h2 : ∀ q, rL ρ a q = 0) (h3 : ∀ q, rO ρ a q = none) : defaultValue (tyX9 j) = rval S ρ 9 a j := match j, hj with
  | 0, _ => (congrArg Value.int (h1 0)).symm
  | 1, _ => (congrArg Value.int (h1 1)).symm
  | j + 2, h => absurd h (by omega)
theorem xdv_10 (S : Adr) (j : Nat) (hj : j < 4) (ρ : RS) (a : Nat) (h1 : ∀ q, rI ρ a q = 0) (h2 : ∀ q, rL ρ a q = 0) (h3 : ∀ q, rO ρ a q = none) : defaultValue (tyJ6 j) = rval S ρ 10 a j := match j, hj with
  | 0, _ => (congrArg va_rf (h3 0)).symm
  | 1, _ => (congrArg Value.int (h1 1)).symm
  | 2, _ => (congrArg Value.int (h1 2)).symm
  | 3, _ => (congrArg Value.int (h1 3)).symm
  | j + 4, h => absurd h (by omega)
theorem xdv_11 (S : Adr) (j : Nat) (hj : j < 2) (ρ : RS) (a : Nat) (h1 : ∀ q, rI ρ a q = 0) (h2 : ∀ q, rL ρ a q = 0) (h3 : ∀ q, rO ρ a q = none) : defaultValue (tyX11 j) = rval S ρ 11 a j := match j, hj with
  | 0, _ => (congrArg va_rf (h3 0)).symm
  | 1, _ => (congrArg va_rf (h3 1)).symm
  | j + 2, h => absurd h (by omega)
theorem xdv_12 (S : Adr) (j : Nat) (hj : j < 3) (ρ : RS) (a : Nat) (h1 : ∀ q, rI ρ a q = 0) (h2 : ∀ q, rL ρ a q = 0) (h3 : ∀ q, rO ρ a q = none) : defaultValue (tyX12 j) = rval S ρ 12 a j := match j, hj with
  | 0, _ => (congrArg Value.int (h1 0)).symm
  | 1, _ => (congrArg va_rf (h3 1)).symm
  | 2, _ => (congrArg va_rf (h3 2)).symm
  | j + 3, h => absurd h (by omega)
theorem xdv_13 (S : Adr) (j : Nat) (hj : j < 1) (ρ : RS) (a : Nat) (h1 : ∀ q, rI ρ a q = 0) (h2 : ∀ q, rL ρ a q = 0) (h3 : ∀ q, rO ρ a q = none) : defaultValue (tyX13 j) = rval S ρ 13 a j := match j, hj with
  | 0, _ => (congrArg Value.long (h2 0)).symm
  | j + 1, h => absurd h (by omega)
theorem xdv_14 (S : Adr) (j : Nat) (hj : j < 1) (ρ : RS) (a : Nat) (h1 : ∀ q, rI ρ a q = 0) (h2 : ∀ q, rL ρ a q = 0) (h3 : ∀ q, rO ρ a q = none) : defaultValue (tyX14 j) = rval S ρ 14 a j := match j, hj with
  | 0, _ => (congrArg Value.int (h1 0)).symm
  | j + 1, h => absurd h (by omega)
theorem xdv_15 (S : Adr) (j : Nat) (hj : j < 3) (ρ : RS) (a : Nat) (h1 : ∀ q, rI ρ a q = 0) (h2 : ∀ q, rL ρ a q = 0) (h3 : ∀ q, rO ρ a q = none) : defaultValue (tyX15 j) = rval S ρ 15 a j := match j, hj with
  | 0, _ => (congrArg Value.int (h1 0)).symm
  | 1, _ => (congrArg va_rf (h3 1)).symm
  | 2, _ => (congrArg va_rf (h3 2)).symm
  | j + 3, h => absurd h (by omega)
theorem xdv_16 (S : Adr) (j : Nat) (hj : j < 4) (ρ : RS) (a : Nat) (h1 : ∀ q, rI ρ a q = 0) (h2 : ∀ q, rL ρ a q = 0) (h3 : ∀ q, rO ρ a q = none) : defaultValue (tyJ15 j) = rval S ρ 16 a j := match j, hj with
  | 0, _ => (congrArg va_rf (h3 0)).symm
  | 1, _ => (congrArg Value.int (h1 1)).symm
  | 2, _ => (congrArg Value.int (h1 2)).symm
  | 3, _ => (congrArg Value.int (h1 3)).symm
  | j + 4, h => absurd h (by omega)
theorem xdv_17 (S : Adr) (j : Nat) (hj : j < 2) (ρ : RS) (a : Nat) (h1 : ∀ q, rI ρ a q = 0) (h2 : ∀ q, rL ρ a q = 0) (h3 : ∀ q, rO ρ a q = none) : defaultValue (tyX17 j) = rval S ρ 17 a j := match j, hj with
  | 0, _ => (congrArg va_rf (h3 0)).symm
  | 1, _ => (congrArg Value.int (h1 1)).symm
  | j + 2, h => absurd h (by omega)
theorem xdv_18 (S : Adr) (j : Nat) (hj : j < 1) (ρ : RS) (a : Nat) (h1 : ∀ q, rI ρ a q = 0) (h2 : ∀ q, rL ρ a q = 0) (h3 : ∀ q, rO ρ a q = none) : defaultValue (tyX18 j) = rval S ρ 18 a j := match j, hj with
  | 0, _ => (congrArg va_rf (h3 0)).symm
  | j + 1, h => absurd h (by omega)
theorem xdv_19 (S : Adr) (j : Nat) (hj : j < 0) (ρ : RS) (a : Nat) (h1 : ∀ q, rI ρ a q = 0) (h2 : ∀ q, rL ρ a q = 0) (h3 : ∀ q, rO ρ a q = none) : defaultValue ((fun _ => .int) j) = rval S ρ 19 a j := absurd hj (Nat.not_lt_zero _)
theorem xdv_20 (S : Adr) (j : Nat) (hj : j < 3) (ρ : RS) (a : Nat) (h1 : ∀ q, rI ρ a q = 0) (h2 : ∀ q, rL ρ a q = 0) (h3 : ∀ q, rO ρ a q = none) : defaultValue (tyX20 j) = rval S ρ 20 a j := match j, hj with
  | 0, _ => (congrArg va_rf (h3 0)).symm
  | 1, _ => (congrArg va_rf (h3 1)).symm
  | 2, _ => (congrArg Value.int (h1 2)).symm
  | j + 3, h => absurd h (by omega)
theorem xdv_21 (S : Adr) (j : Nat) (hj : j < 5) (ρ : RS) (a : Nat) (h1 : ∀ q, rI ρ a q = 0) (h2 : ∀ q, rL ρ a q = 0) (h3 : ∀ q, rO ρ a q = none) : defaultValue (tyX21 j) = rval S ρ 21 a j := match j, hj with
  | 0, _ => (congrArg Value.int (h1 0)).symm
  | 1, _ => (congrArg va_rf (h3 1)).symm
  | 2, _ => (congrArg va_rf (h3 2)).symm
  | 3, _ => (congrArg Value.long (h2 3)).symm
  | 4, _ => (congrArg Value.int (h1 4)).symm
  | j + 5, h => absurd h (by omega)
section XNW
variable {κ : Cx} {S : Adr} {A : Nat → Prop} {mc ms : Nat} {Q : State → Prop} {cc : ByteArray} {own : String} {n : Nat} {ν : XN} {k0 n0 : Nat} {lv : List (Option Value)} {st : List Value}
theorem xn_X11_18 (pc : Nat) {k n1 : Nat} (hk : k + 1 ≤ k0) (hn1 : n1 + 4 ≤ n0) (h : XCx κ cc RX11 S A n mc ms) (d : decode cc pc = .ok (.new 18, 3)) (K : ∀ q, rk ν.2 q = 0 → ∀ ν1, ν1 = (ν.1, tN ν.2 q 17 0) → XG κ S A mc ms Q (pc + 3) (ν1, k, n1) lv (.ref q :: st)) : XG κ S A mc ms Q pc (ν, k0, n0) lv st :=
  x_new pc 16 (N := 4) rfl in_J15 tyJ15 tyJ15_ok (xdv_16 S) h q1033 q1034 q199 hk hn1 d K
theorem xn_X11_7 (pc : Nat) {k n1 : Nat} (hk : k + 1 ≤ k0) (hn1 : n1 + 3 ≤ n0) (h : XCx κ cc RX11 S A n mc ms) (d : decode cc pc = .ok (.new 7, 3)) (K : ∀ q, rk ν.2 q = 0 → ∀ ν1, ν1 = (ν.1, tN ν.2 q 7 0) → XG κ S A mc ms Q (pc + 3) (ν1, k, n1) lv (.ref q :: st)) : XG κ S A mc ms Q pc (ν, k0, n0) lv st :=
  x_new pc 6 (N := 3) rfl in_J2 tyJ2 tyJ2_ok (xdv_6 S) h q1031 q226 q175 hk hn1 d K
theorem xn_X17_7 (pc : Nat) {k n1 : Nat} (hk : k + 1 ≤ k0) (hn1 : n1 + 3 ≤ n0) (h : XCx κ cc RX17 S A n mc ms) (d : decode cc pc = .ok (.new 7, 3)) (K : ∀ q, rk ν.2 q = 0 → ∀ ν1, ν1 = (ν.1, tN ν.2 q 7 0) → XG κ S A mc ms Q (pc + 3) (ν1, k, n1) lv (.ref q :: st)) : XG κ S A mc ms Q pc (ν, k0, n0) lv st :=
  x_new pc 6 (N := 3) rfl in_J2 tyJ2 tyJ2_ok (xdv_6 S) h q1219 q226 q175 hk hn1 d K
theorem xn_X7_10 (pc : Nat) {k n1 : Nat} (hk : k + 1 ≤ k0) (hn1 : n1 + 1 ≤ n0) (h : XCx κ cc RX7 S A n mc ms) (d : decode cc pc = .ok (.new 10, 3)) (K : ∀ q, rk ν.2 q = 0 → ∀ ν1, ν1 = (ν.1, tN ν.2 q 8 0) → XG κ S A mc ms Q (pc + 3) (ν1, k, n1) lv (.ref q :: st)) : XG κ S A mc ms Q pc (ν, k0, n0) lv st :=
  x_new pc 7 (N := 1) rfl in_X7 tyX7 tyX7_ok (xdv_7 S) h q848 q797 q189 hk hn1 d K
theorem xn_X1_15 (pc : Nat) {k n1 : Nat} (hk : k + 1 ≤ k0) (hn1 : n1 + 3 ≤ n0) (h : XCx κ cc RX1 S A n mc ms) (d : decode cc pc = .ok (.new 15, 3)) (K : ∀ q, rk ν.2 q = 0 → ∀ ν1, ν1 = (ν.1, tN ν.2 q 7 0) → XG κ S A mc ms Q (pc + 3) (ν1, k, n1) lv (.ref q :: st)) : XG κ S A mc ms Q pc (ν, k0, n0) lv st :=
  x_new pc 6 (N := 3) rfl in_J2 tyJ2 tyJ2_ok (xdv_6 S) h q225 q226 q175 hk hn1 d K
theorem xn_X1_46 (pc : Nat) {k n1 : Nat} (hk : k + 1 ≤ k0) (hn1 : n1 + 4 ≤ n0) (h : XCx κ cc RX1 S A n mc ms) (d : decode cc pc = .ok (.new 46, 3)) (K : ∀ q, rk ν.2 q = 0 → ∀ ν1, ν1 = (ν.1, tN ν.2 q 9 0) → XG κ S A mc ms Q (pc + 3) (ν1, k, n1) lv (.ref q :: st)) : XG κ S A mc ms Q pc (ν, k0, n0) lv st :=
  x_new pc 8 (N := 4) rfl in_X8 tyX8 tyX8_ok (xdv_8 S) h q947 q949 q194 hk hn1 d K
theorem xn_X2_108 (pc : Nat) {k n1 : Nat} (hk : k + 1 ≤ k0) (hn1 : n1 + 11 ≤ n0) (h : XCx κ cc RX2 S A n mc ms) (d : decode cc pc = .ok (.new 108, 3)) (K : ∀ q, rk ν.2 q = 0 → ∀ ν1, ν1 = (ν.1, tN ν.2 q 2 0) → XG κ S A mc ms Q (pc + 3) (ν1, k, n1) lv (.ref q :: st)) : XG κ S A mc ms Q pc (ν, k0, n0) lv st :=
  x_new pc 1 (N := 11) rfl in_X1 tyX1 tyX1_ok (xdv_1 S) h q582 q220 q172 hk hn1 d K
theorem xn_X2_114 (pc : Nat) {k n1 : Nat} (hk : k + 1 ≤ k0) (hn1 : n1 + 1 ≤ n0) (h : XCx κ cc RX2 S A n mc ms) (d : decode cc pc = .ok (.new 114, 3)) (K : ∀ q, rk ν.2 q = 0 → ∀ ν1, ν1 = (ν.1, tN ν.2 q 8 0) → XG κ S A mc ms Q (pc + 3) (ν1, k, n1) lv (.ref q :: st)) : XG κ S A mc ms Q pc (ν, k0, n0) lv st :=
  x_new pc 7 (N := 1) rfl in_X7 tyX7 tyX7_ok (xdv_7 S) h q796 q797 q189 hk hn1 d K
theorem xn_X2_172 (pc : Nat) {k n1 : Nat} (hk : k + 1 ≤ k0) (hn1 : n1 + 4 ≤ n0) (h : XCx κ cc RX2 S A n mc ms) (d : decode cc pc = .ok (.new 172, 3)) (K : ∀ q, rk ν.2 q = 0 → ∀ ν1, ν1 = (ν.1, tN ν.2 q 9 0) → XG κ S A mc ms Q (pc + 3) (ν1, k, n1) lv (.ref q :: st)) : XG κ S A mc ms Q pc (ν, k0, n0) lv st :=
  x_new pc 8 (N := 4) rfl in_X8 tyX8 tyX8_ok (xdv_8 S) h q948 q949 q194 hk hn1 d K
theorem xn_X2_205 (pc : Nat) {k n1 : Nat} (hk : k + 1 ≤ k0) (hn1 : n1 + 2 ≤ n0) (h : XCx κ cc RX2 S A n mc ms) (d : decode cc pc = .ok (.new 205, 3)) (K : ∀ q, rk ν.2 q = 0 → ∀ ν1, ν1 = (ν.1, tN ν.2 q 10 0) → XG κ S A mc ms Q (pc + 3) (ν1, k, n1) lv (.ref q :: st)) : XG κ S A mc ms Q pc (ν, k0, n0) lv st :=
  x_new pc 9 (N := 2) rfl in_X9 tyX9 tyX9_ok (xdv_9 S) h q989 q990 q195 hk hn1 d K
theorem xn_X2_268 (pc : Nat) {k n1 : Nat} (hk : k + 1 ≤ k0) (hn1 : n1 + 2 ≤ n0) (h : XCx κ cc RX2 S A n mc ms) (d : decode cc pc = .ok (.new 268, 3)) (K : ∀ q, rk ν.2 q = 0 → ∀ ν1, ν1 = (ν.1, tN ν.2 q 12 0) → XG κ S A mc ms Q (pc + 3) (ν1, k, n1) lv (.ref q :: st)) : XG κ S A mc ms Q pc (ν, k0, n0) lv st :=
  x_new pc 11 (N := 2) rfl in_X11 tyX11 tyX11_ok (xdv_11 S) h q1022 q1023 q197 hk hn1 d K
theorem xn_X2_286 (pc : Nat) {k n1 : Nat} (hk : k + 1 ≤ k0) (hn1 : n1 + 3 ≤ n0) (h : XCx κ cc RX2 S A n mc ms) (d : decode cc pc = .ok (.new 286, 3)) (K : ∀ q, rk ν.2 q = 0 → ∀ ν1, ν1 = (ν.1, tN ν.2 q 13 0) → XG κ S A mc ms Q (pc + 3) (ν1, k, n1) lv (.ref q :: st)) : XG κ S A mc ms Q pc (ν, k0, n0) lv st :=
  x_new pc 12 (N := 3) rfl in_X12 tyX12 tyX12_ok (xdv_12 S) h q1079 q1080 q200 hk hn1 d K
theorem xn_X2_295 (pc : Nat) {k n1 : Nat} (hk : k + 1 ≤ k0) (hn1 : n1 + 1 ≤ n0) (h : XCx κ cc RX2 S A n mc ms) (d : decode cc pc = .ok (.new 295, 3)) (K : ∀ q, rk ν.2 q = 0 → ∀ ν1, ν1 = (ν.1, tN ν.2 q 14 0) → XG κ S A mc ms Q (pc + 3) (ν1, k, n1) lv (.ref q :: st)) : XG κ S A mc ms Q pc (ν, k0, n0) lv st :=
  x_new pc 13 (N := 1) rfl in_X13 tyX13 tyX13_ok (xdv_13 S) h q1095 q1096 q201 hk hn1 d K
theorem xn_X2_303 (pc : Nat) {k n1 : Nat} (hk : k + 1 ≤ k0) (hn1 : n1 + 1 ≤ n0) (h : XCx κ cc RX2 S A n mc ms) (d : decode cc pc = .ok (.new 303, 3)) (K : ∀ q, rk ν.2 q = 0 → ∀ ν1, ν1 = (ν.1, tN ν.2 q 15 0) → XG κ S A mc ms Q (pc + 3) (ν1, k, n1) lv (.ref q :: st)) : XG κ S A mc ms Q pc (ν, k0, n0) lv st :=
  x_new pc 14 (N := 1) rfl in_X14 tyX14 tyX14_ok (xdv_14 S) h q1107 q1108 q202 hk hn1 d K
theorem xn_X2_317 (pc : Nat) {k n1 : Nat} (hk : k + 1 ≤ k0) (hn1 : n1 + 2 ≤ n0) (h : XCx κ cc RX2 S A n mc ms) (d : decode cc pc = .ok (.new 317, 3)) (K : ∀ q, rk ν.2 q = 0 → ∀ ν1, ν1 = (ν.1, tN ν.2 q 18 0) → XG κ S A mc ms Q (pc + 3) (ν1, k, n1) lv (.ref q :: st)) : XG κ S A mc ms Q pc (ν, k0, n0) lv st :=
  x_new pc 17 (N := 2) rfl in_X17 tyX17 tyX17_ok (xdv_17 S) h q1210 q1211 q205 hk hn1 d K
theorem xn_X2_340 (pc : Nat) {k n1 : Nat} (hk : k + 1 ≤ k0) (hn1 : n1 + 1 ≤ n0) (h : XCx κ cc RX2 S A n mc ms) (d : decode cc pc = .ok (.new 340, 3)) (K : ∀ q, rk ν.2 q = 0 → ∀ ν1, ν1 = (ν.1, tN ν.2 q 19 0) → XG κ S A mc ms Q (pc + 3) (ν1, k, n1) lv (.ref q :: st)) : XG κ S A mc ms Q pc (ν, k0, n0) lv st :=
  x_new pc 18 (N := 1) rfl in_X18 tyX18 tyX18_ok (xdv_18 S) h q1242 q1243 q206 hk hn1 d K
theorem xn_X2_347 (pc : Nat) {k n1 : Nat} (hk : k + 1 ≤ k0) (hn1 : n1 + 0 ≤ n0) (h : XCx κ cc RX2 S A n mc ms) (d : decode cc pc = .ok (.new 347, 3)) (K : ∀ q, rk ν.2 q = 0 → ∀ ν1, ν1 = (ν.1, tN ν.2 q 20 0) → XG κ S A mc ms Q (pc + 3) (ν1, k, n1) lv (.ref q :: st)) : XG κ S A mc ms Q pc (ν, k0, n0) lv st :=
  x_new pc 19 (N := 0) rfl in_X19 (fun _ => .int) (fun k hk => absurd hk (Nat.not_lt_zero _)) (xdv_19 S) h q1253 q1254 q207 hk hn1 d K
theorem xn_X2_350 (pc : Nat) {k n1 : Nat} (hk : k + 1 ≤ k0) (hn1 : n1 + 3 ≤ n0) (h : XCx κ cc RX2 S A n mc ms) (d : decode cc pc = .ok (.new 350, 3)) (K : ∀ q, rk ν.2 q = 0 → ∀ ν1, ν1 = (ν.1, tN ν.2 q 21 0) → XG κ S A mc ms Q (pc + 3) (ν1, k, n1) lv (.ref q :: st)) : XG κ S A mc ms Q pc (ν, k0, n0) lv st :=
  x_new pc 20 (N := 3) rfl in_X20 tyX20 tyX20_ok (xdv_20 S) h q1260 q1261 q208 hk hn1 d K
theorem xn_X2_355 (pc : Nat) {k n1 : Nat} (hk : k + 1 ≤ k0) (hn1 : n1 + 3 ≤ n0) (h : XCx κ cc RX2 S A n mc ms) (d : decode cc pc = .ok (.new 355, 3)) (K : ∀ q, rk ν.2 q = 0 → ∀ ν1, ν1 = (ν.1, tN ν.2 q 16 0) → XG κ S A mc ms Q (pc + 3) (ν1, k, n1) lv (.ref q :: st)) : XG κ S A mc ms Q pc (ν, k0, n0) lv st :=
  x_new pc 15 (N := 3) rfl in_X15 tyX15 tyX15_ok (xdv_15 S) h q1123 q1124 q203 hk hn1 d K
theorem xn_X2_363 (pc : Nat) {k n1 : Nat} (hk : k + 1 ≤ k0) (hn1 : n1 + 5 ≤ n0) (h : XCx κ cc RX2 S A n mc ms) (d : decode cc pc = .ok (.new 363, 3)) (K : ∀ q, rk ν.2 q = 0 → ∀ ν1, ν1 = (ν.1, tN ν.2 q 22 0) → XG κ S A mc ms Q (pc + 3) (ν1, k, n1) lv (.ref q :: st)) : XG κ S A mc ms Q pc (ν, k0, n0) lv st :=
  x_new pc 21 (N := 5) rfl in_X21 tyX21 tyX21_ok (xdv_21 S) h q1686 q1687 q210 hk hn1 d K
theorem xn_X5_168 (pc : Nat) {k n1 : Nat} (hk : k + 1 ≤ k0) (hn1 : n1 + 2 ≤ n0) (h : XCx κ cc RX5 S A n mc ms) (d : decode cc pc = .ok (.new 168, 3)) (K : ∀ q, rk ν.2 q = 0 → ∀ ν1, ν1 = (ν.1, tN ν.2 q 10 0) → XG κ S A mc ms Q (pc + 3) (ν1, k, n1) lv (.ref q :: st)) : XG κ S A mc ms Q pc (ν, k0, n0) lv st :=
  x_new pc 9 (N := 2) rfl in_X9 tyX9 tyX9_ok (xdv_9 S) h q1533 q990 q195 hk hn1 d K
theorem xn_X5_60 (pc : Nat) {k n1 : Nat} (hk : k + 1 ≤ k0) (hn1 : n1 + 4 ≤ n0) (h : XCx κ cc RX5 S A n mc ms) (d : decode cc pc = .ok (.new 60, 3)) (K : ∀ q, rk ν.2 q = 0 → ∀ ν1, ν1 = (ν.1, tN ν.2 q 9 0) → XG κ S A mc ms Q (pc + 3) (ν1, k, n1) lv (.ref q :: st)) : XG κ S A mc ms Q pc (ν, k0, n0) lv st :=
  x_new pc 8 (N := 4) rfl in_X8 tyX8 tyX8_ok (xdv_8 S) h q1290 q949 q194 hk hn1 d K
theorem xn_X0_208 (pc : Nat) {k n1 : Nat} (hk : k + 1 ≤ k0) (hn1 : n1 + 1 ≤ n0) (h : XCx κ cc RX0 S A n mc ms) (d : decode cc pc = .ok (.new 208, 3)) (K : ∀ q, rk ν.2 q = 0 → ∀ ν1, ν1 = (ν.1, tN ν.2 q 8 0) → XG κ S A mc ms Q (pc + 3) (ν1, k, n1) lv (.ref q :: st)) : XG κ S A mc ms Q pc (ν, k0, n0) lv st :=
  x_new pc 7 (N := 1) rfl in_X7 tyX7 tyX7_ok (xdv_7 S) h q1319 q797 q189 hk hn1 d K
theorem xn_X0_225 (pc : Nat) {k n1 : Nat} (hk : k + 1 ≤ k0) (hn1 : n1 + 2 ≤ n0) (h : XCx κ cc RX0 S A n mc ms) (d : decode cc pc = .ok (.new 225, 3)) (K : ∀ q, rk ν.2 q = 0 → ∀ ν1, ν1 = (ν.1, tN ν.2 q 10 0) → XG κ S A mc ms Q (pc + 3) (ν1, k, n1) lv (.ref q :: st)) : XG κ S A mc ms Q pc (ν, k0, n0) lv st :=
  x_new pc 9 (N := 2) rfl in_X9 tyX9 tyX9_ok (xdv_9 S) h q1354 q990 q195 hk hn1 d K
theorem xn_X0_28 (pc : Nat) {k n1 : Nat} (hk : k + 1 ≤ k0) (hn1 : n1 + 11 ≤ n0) (h : XCx κ cc RX0 S A n mc ms) (d : decode cc pc = .ok (.new 28, 3)) (K : ∀ q, rk ν.2 q = 0 → ∀ ν1, ν1 = (ν.1, tN ν.2 q 2 0) → XG κ S A mc ms Q (pc + 3) (ν1, k, n1) lv (.ref q :: st)) : XG κ S A mc ms Q pc (ν, k0, n0) lv st :=
  x_new pc 1 (N := 11) rfl in_X1 tyX1 tyX1_ok (xdv_1 S) h q219 q220 q172 hk hn1 d K
theorem xn_J6_10 (pc : Nat) {k n1 : Nat} (hk : k + 1 ≤ k0) (hn1 : n1 + 4 ≤ n0) (h : XCx κ cc RJ6 S A n mc ms) (d : decode cc pc = .ok (.new 10, 3)) (K : ∀ q, rk ν.2 q = 0 → ∀ ν1, ν1 = (ν.1, tN ν.2 q 11 0) → XG κ S A mc ms Q (pc + 3) (ν1, k, n1) lv (.ref q :: st)) : XG κ S A mc ms Q pc (ν, k0, n0) lv st :=
  x_new pc 10 (N := 4) rfl in_J6 tyJ6 tyJ6_ok (xdv_10 S) h q618 q619 q184 hk hn1 d K
/-- every class of ours is an Object -/
theorem xcastO : ∀ (c : Nat) (r : vw_C), xcl[c]? = some r → Cond.castable r.1 "java/lang/Object" ∈ lw_tbl
  | 0, r, h => by cases h; exact q2716
  | 1, r, h => by cases h; exact q2717
  | 2, r, h => by cases h; exact q2719
  | 3, r, h => by cases h; exact q2720
  | 4, r, h => by cases h; exact q2721
  | 5, r, h => by cases h; exact q2714
  | 6, r, h => by cases h; exact q2718
  | 7, r, h => by cases h; exact q2724
  | 8, r, h => by cases h; exact q2725
  | 9, r, h => by cases h; exact q2726
  | 10, r, h => by cases h; exact q2715
  | 11, r, h => by cases h; exact q2727
  | 12, r, h => by cases h; exact q2729
  | 13, r, h => by cases h; exact q2730
  | 14, r, h => by cases h; exact q2731
  | 15, r, h => by cases h; exact q2732
  | 16, r, h => by cases h; exact q2728
  | 17, r, h => by cases h; exact q2733
  | 18, r, h => by cases h; exact q2734
  | 19, r, h => by cases h; exact q2735
  | 20, r, h => by cases h; exact q2736
  | 21, r, h => by cases h; exact q2737
  | c + 22, r, h => by
    have := (List.getElem?_eq_some_iff.mp h).1
    have : c + 22 < 22 := this
    omega
theorem ra_aast9 (pc : Nat) {a v : Nat} {i : Int32} (ht : rk ν.2 a = 109) (hv : 1 ≤ rc ν.2 v ∧ rc ν.2 v < 23) (hi : vp_in i (rn ν.2 a)) (h : XCx κ cc own S A n mc ms) (d : decode cc pc = .ok (.aastore, 1)) (K : ∀ ν1, ν1 = (ν.1, tO ν.2 a (Int32.toNatClampNeg i) (some v)) → XG κ S A mc ms Q (pc + 1) (ν1, k0, n0) lv st) : XG κ S A mc ms Q pc (ν, k0, n0) lv (.ref v :: .int i :: .ref a :: st) := by
  intro H locs ls cells slots ha b c
  have ha : XI S A ν H ∧ cells + k0 ≤ mc ∧ slots + n0 ≤ ms := ha
  have hrc : rc ν.2 a = 109 := rc_of ht (by decide)
  have hne : rk ν.2 a ≠ 0 := by omega
  have hP := x_rarr ha.1.2.1 (t := 9) hrc
  have hlt : i.toNatClampNeg < rn ν.2 a := Nat.not_le.mp fun q => hi (Or.inr q)
  have h0 : ¬ i < 0 := fun q => hi (Or.inl q)
  obtain ⟨cv, hcv⟩ : ∃ cv, rc ν.2 v = cv + 1 := ⟨rc ν.2 v - 1, by omega⟩
  have hl : cv < xcl.length := by show cv < 22; omega
  have hr : xcl[cv]? = some xcl[cv] := List.getElem?_eq_getElem hl
  obtain ⟨cellV, g1, g2, g3, -⟩ := ha.1.2.1.1 v cv _ hcv hr
  have hcls := (h.2.1.1.1 cv _ hr).2
  obtain ⟨kV, hkV, -⟩ := hcls.2
  obtain ⟨kA, comp, j1, j2, j3, -⟩ := (h.2.1.1.2 7 _ rfl).2
  obtain ⟨kC, hkC, -⟩ := Vm.findClass_spec j3
  have hasg := vb_asgC (h.2.1.2.1 _ (xcastO cv _ hr) rfl) comp (S.1.1 cv) j3 hcls.1
  refine W.aast h.1.1 h.1.2.1 (hP 0 _ rfl) (fun q h => by cases h) (fun h => by cases h) j1 j2 rfl hkC ⟨h0, by show _ < (arrV _ _ _).slots.size; rw [arrV_size]; exact hlt⟩ g1 (fun q h => by rw [g3] at h; cases h) (by rw [g2]; exact hkV) (by rw [g2]; exact hasg) rfl rfl d fun H1 e z oq => ?_
  refine K _ rfl H1 _ ls cells slots ⟨ha.1.raw hne oq rfl (tO_o _ _ _ _) (fun c' r' hc' hr' => ?_) (fun t' ht' => ?_), ha.2⟩ (b.put z oq ((ha.1.2.2.1 a hne).2.1 (by omega))) c
  · have := (List.getElem?_eq_some_iff.mp hr').1
    have : c' < 22 := this
    omega
  · obtain rfl : t' = 9 := by omega
    rw [e]
    show some ((vp_cell _ (rn ν.2 a, .inr (.inr (.inr (.inr (rO ν.2 a)))))).setSlot _ _) = some (vp_cell _ (rn ν.2 a, .inr (.inr (.inr (.inr (rO (tO ν.2 a _ _) a))))))
    rw [vp_cell_q, vp_cell_q, arrV_store]
    congr 2
    funext q
    by_cases hq : q = i.toNatClampNeg
    · subst hq; simp [rO, tO, up2, updV, va_rf]
    · simp [rO, tO, up2, updV, hq]
theorem x_newaO (pc : Nat) {i : Int32} {N k n1 idx : Nat} (hi : ¬ i < 0) (hN : i.toNatClampNeg = N) (hb4 : N ≤ 100000000) (h : XCx κ cc own S A n mc ms) (hq : Cond.classLink own idx "java/lang/Object" ∈ lw_all) (hk : k + 1 ≤ k0) (hn1 : n1 + N ≤ n0) (d : decode cc pc = .ok (.anewarray idx, 3))
    (K : ∀ q, rk ν.2 q = 0 → ∀ ν1, ν1 = (ν.1, tN ν.2 q 109 N) → XG κ S A mc ms Q (pc + 3) (ν1, k, n1) lv (.ref q :: st)) : XG κ S A mc ms Q pc (ν, k0, n0) lv (.int i :: st) := by
  intro H locs ls cells slots ha b cc1
  have ha : XI S A ν H ∧ cells + k0 ≤ mc ∧ slots + n0 ≤ ms := ha
  subst hN
  have hR : cxR κ = rmX n mc ms := h.2.2.2.2.2.1
  have hA0 : A H.size := h.2.2.2.1 _ b.1
  have z1c : cells + 1 ≤ (cxR κ).cells := by rw [hR]; show _ ≤ mc; have := ha.2.1; omega
  have z1s : slots + i.toNatClampNeg ≤ (cxR κ).slots := by rw [hR]; show _ ≤ ms; have := ha.2.2; omega
  refine W.anew h.1.1 h.1.2.1 h.1.2.2.1 (h.1.2.2.2 _ hq) (va_AO.use h.2.1.2.2.2.2.2) rfl d rfl hi (by omega) z1c z1s fun cA kA comp f1 f2 f3 f4 => ?_
  obtain ⟨-, -, -, -, -, j4⟩ := (h.2.1.1.2 7 _ rfl).2
  obtain rfl : cA = S.2.2.2 9 := Option.some.inj (f1.symm.trans j4)
  generalize hH1 : H.push ({ cls := S.2.2.2 9, slots := Array.replicate i.toNatClampNeg .null, vm := .none } : Cell) = H1
  have z1 : H1.size = H.size + 1 := by rw [← hH1, Array.size_push]
  have e1 : H1[H.size]? = some (arrV (S.2.2.2 9) i.toNatClampNeg (fun _ => .null)) := by rw [← hH1, Array.getElem?_push_size, ← arrV_new]
  have o1 : ∀ q : Nat, q < H.size → H1[q]? = H[q]? := fun q hq => by rw [← hH1, Array.getElem?_push, if_neg (Nat.ne_of_lt hq)]
  have hx := ha.1.newC (H1 := H1) (c := 109) (n := i.toNatClampNeg) hA0 o1 ⟨Or.inr (by omega), by omega, by omega⟩ (x_sz h b) (fun d' r' hd' hr' => by
    have := (List.getElem?_eq_some_iff.mp hr').1
    have : d' < 22 := this
    omega) (fun t' ht' => by
    obtain rfl : t' = 9 := by omega
    rw [e1]
    show _ = some (vp_cell _ (rn (tN ν.2 H.size 109 i.toNatClampNeg) H.size, .inr (.inr (.inr (.inr (rO (tN ν.2 H.size 109 i.toNatClampNeg) H.size))))))
    simp [rn, rO, tN, vp_cell_q, va_rf])
  refine K H.size hx.1 _ rfl H1 locs ls (cells + 1) (slots + i.toNatClampNeg) ⟨hx.2, by have := ha.2.1; show cells + 1 + k ≤ mc; omega, by have := ha.2.2; show slots + i.toNatClampNeg + n1 ≤ ms; omega⟩ ⟨Nat.le_trans b.1 (by omega), fun x h1 h2 => (o1 x (Nat.lt_of_lt_of_le h1 b.1)).trans (b.2.1 x h1 h2), b.2.2⟩ cc1
end XNW
section XI2
variable {κ : Cx} {S : Adr} {A : Nat → Prop} {mc ms : Nat} {Q : State → Prop} {cc : ByteArray} {own : String} {n : Nat} {ν : XN} {k0 n0 : Nat} {lv : List (Option Value)} {st : List Value} {C : String} {T : u_T} {N : Nat}
theorem x_instS (pc : Nat) {idx : Nat} (c : Nat) {a : Nat} (ha : rc ν.2 a = c + 1) (hcl : xcl[c]? = some (C, T, N)) (h : XCx κ cc own S A n mc ms) (hq : Cond.classLink own idx C ∈ lw_all) (d : decode cc pc = .ok (.instanceof idx, 3)) (K : XG κ S A mc ms Q (pc + 3) (ν, k0, n0) lv (.int 1 :: st)) : XG κ S A mc ms Q pc (ν, k0, n0) lv (.ref a :: st) :=
  fun H locs ls cells slots hi b q => va_instS h.1.1 h.1.2.1 h.1.2.2.1 (h.1.2.2.2 _ hq) (h.2.1.1.1 c _ hcl).2 (x_recvR h ha hcl hi.1) d (K H locs ls cells slots hi b q)
end XI2
section GA
variable {M : Type} {κ : Cx} {A : Nat → Prop} {Inv : M → Heap → Nat → Nat → Prop} {Q : State → Prop} {cc : ByteArray} {own : String} {μ : M} {lv : List (Option Value)} {st : List Value}
theorem g_acmp_ne (pc tgt : Nat) {x y : Nat} {off : Int} (h : CxOK κ cc own) (d : decode cc pc = .ok (.if_acmp .ne off, 3)) (ht : (pc : Int) + off = (tgt : Int)) (kt : ¬ x = y → GW κ A Inv Q tgt μ lv st) (kf : x = y → GW κ A Inv Q (pc + 3) μ lv st) : GW κ A Inv Q pc μ lv (.ref y :: .ref x :: st) :=
  fun H locs ls cells slots a b c => lv_acmp_ne (rx := some x) (ry := some y) h.1 h.2.1 d ht (fun e => kt (fun z => e (congrArg some z)) H locs ls cells slots a b c) (fun e => kf (Option.some.inj e) H locs ls cells slots a b c)
theorem g_acmp_eq (pc tgt : Nat) {x y : Nat} {off : Int} (h : CxOK κ cc own) (d : decode cc pc = .ok (.if_acmp .eq off, 3)) (ht : (pc : Int) + off = (tgt : Int)) (kt : x = y → GW κ A Inv Q tgt μ lv st) (kf : ¬ x = y → GW κ A Inv Q (pc + 3) μ lv st) : GW κ A Inv Q pc μ lv (.ref y :: .ref x :: st) :=
  fun H locs ls cells slots a b c => lv_acmp_eq (rx := some x) (ry := some y) h.1 h.2.1 d ht (fun e => kt (Option.some.inj e) H locs ls cells slots a b c) (fun e => kf (fun z => e (congrArg some z)) H locs ls cells slots a b c)
end GA
