set_option maxRecDepth 100000
/-- where the arrays and objects of the two roots lie: object, slot, name, length -/
def layA : List (Nat × Nat × Nat × Nat) := [(0, 0, 17, 8), (0, 1, 50, 20), (0, 2, 51, 300), (0, 3, 20, 200), (0, 4, 21, 8), (0, 5, 237, 12), (0, 6, 269, 12), (0, 7, 301, 64), (0, 8, 333, 64), (0, 9, 365, 13), (0, 10, 397, 400), (0, 11, 429, 936), (0, 12, 78, 400), (0, 13, 1, 0), (0, 27, 2, 0), (0, 28, 461, 8), (0, 29, 493, 8), (0, 30, 525, 8), (0, 31, 557, 20), (0, 32, 589, 20), (0, 33, 621, 8), (1, 0, 46, 400), (1, 1, 205, 400), (2, 0, 19, 6), (2, 1, 18, 6), (2, 2, 109, 6), (2, 3, 141, 6), (2, 4, 173, 6), (2, 10, 0, 0), (3, 3, 23, 8), (3, 4, 55, 8), (3, 5, 87, 8), (3, 6, 749, 8), (3, 7, 781, 8), (3, 8, 813, 8), (3, 9, 845, 8), (3, 10, 877, 8), (3, 11, 909, 8), (3, 12, 941, 8), (3, 13, 973, 8), (3, 14, 1005, 8), (3, 15, 1037, 8), (3, 16, 1069, 8), (3, 17, 1101, 8), (3, 18, 1133, 8), (3, 19, 1165, 8), (3, 20, 1197, 20), (3, 21, 1229, 20), (3, 22, 1261, 20), (3, 23, 1293, 20), (3, 24, 1325, 20), (3, 25, 1357, 20), (3, 26, 1389, 20), (3, 27, 1421, 20), (3, 28, 1453, 20), (3, 29, 1485, 20), (3, 30, 1517, 20), (3, 31, 1549, 20), (3, 32, 1581, 20), (3, 33, 1613, 20), (3, 34, 16, 20), (3, 35, 1645, 20), (3, 36, 1677, 20), (3, 37, 1709, 20), (3, 39, 1741, 8), (3, 40, 110, 400), (3, 48, 24, 9), (3, 49, 151, 9), (3, 50, 1837, 12), (3, 51, 1869, 12), (3, 54, 26, 5), (3, 55, 58, 13), (3, 56, 1901, 13), (3, 57, 1933, 420), (3, 58, 1965, 300), (3, 59, 1997, 300), (3, 60, 2029, 300), (3, 61, 2061, 300), (3, 62, 2093, 300), (3, 63, 2125, 300), (3, 65, 2157, 20), (3, 66, 2189, 8), (3, 67, 2221, 20), (3, 68, 2253, 20), (3, 72, 2285, 200), (3, 73, 2317, 200), (3, 74, 2349, 200), (3, 75, 2381, 200), (3, 76, 2413, 200), (3, 77, 15, 200), (3, 79, 2445, 6), (3, 80, 2477, 6), (3, 81, 2509, 6), (3, 82, 2541, 6), (3, 83, 2573, 6), (3, 84, 25, 6), (3, 85, 183, 6), (3, 91, 215, 156), (3, 92, 2669, 8), (3, 93, 2701, 8), (3, 94, 2733, 8), (3, 95, 2765, 8)]
def layR : List (Nat × Nat × Nat × Nat) := [(23, 653, 8, 4), (24, 119, 9, 5), (25, 47, 6, 6), (55, 685, 8, 8), (87, 717, 8, 157), (151, 1805, 9, 5), (183, 2605, 6, 6), (215, 2637, 156, 6)]
def layS : List (Nat × Nat × Nat) := [(26, 0, 49179), (26, 1, 57371), (26, 2, 65563), (26, 3, 73755), (26, 4, 81947), (58, 0, 90139), (58, 1, 98331), (58, 2, 106523), (58, 3, 114715), (58, 4, 122907), (58, 5, 131099), (58, 6, 139291), (58, 7, 147483), (58, 8, 155675), (58, 9, 163867), (58, 10, 172059), (58, 11, 180251), (58, 12, 188443)]
def Lay (u : zM) : Prop := (∀ q ∈ layA, mR u q.1 q.2.1 = some q.2.2.1 ∧ mN u q.2.2.1 = q.2.2.2) ∧ (∀ q ∈ layR, ∀ i, i < q.2.2.1 → mR u q.1 i = some (nm q.2.1 i) ∧ mN u (nm q.2.1 i) = q.2.2.2) ∧ (∀ q ∈ layS, mR u q.1 q.2.1 = some q.2.2) ∧ (∀ s c, s < 9 → c < 5 → mR u (nm 119 s) c = some (nm 1773 (5 * s + c)) ∧ mN u (nm 1773 (5 * s + c)) = 840) ∧ ∀ i, i < 27 → mN u (nm 28 i) = zLen.getD i 0 ∧ ∀ j, mI u (nm 28 i) j = (zByt.getD i []).getD j 0
def layZ : List Nat := [17, 50, 51, 20, 21, 19, 18]
def layK : List Nat := [4, 13, 45, 5, 6, 8, 12, 10, 22, 9, 14, 77, 11, 48]
/-- the memory after the two constructors -/
def Lay0 (L : Nat) (xs : Nat → Int32) (u : zM) : Prop := Lay u ∧ (∀ s ∈ layK, mK u s = 0) ∧ (∀ a ∈ layZ, ∀ k, mR u a k = none) ∧ (∀ n k, nS n ≠ 28 → nS n ≠ 30 → mI u n k = 0) ∧ (∀ n k, mL u n k = 0) ∧ (mN u (nm 30 0) = L ∧ ∀ j, mI u (nm 30 0) j = xs j) ∧ mC u ≤ 400 ∧ mS u ≤ 50000
theorem Lay0.of {L : Nat} {xs : Nat → Int32} {u : zM} {lr : List (Nat × Nat × Nat)} {ln : List (Nat × Nat)} {lz : List Nat} {lw : List (Nat × Nat × Nat × Nat)} {nc ns : Nat} (h : Fc L xs u layK lr ln lz lw true nc ns)
    (h1 : ∀ q ∈ layA, (q.1, q.2.1, q.2.2.1) ∈ lr ∧ (q.2.2.1, q.2.2.2) ∈ ln) (h2 : ∀ q ∈ layR, q ∈ lw) (h3 : ∀ q ∈ layS, q ∈ lr) (h4 : ∀ a ∈ layZ, a ∈ lz) (h5 : nc ≤ 400) (h6 : ns ≤ 50000) : Lay0 L xs u := by
  obtain ⟨f1, f2, f3, f4, f5, f6, f7, f8, f9, f10, f11, f12⟩ := h
  exact ⟨⟨fun q hq => ⟨f2 _ (h1 q hq).1, f3 _ (h1 q hq).2⟩, fun q hq => f5 q (h2 q hq), fun q hq => f2 q (h3 q hq), f6 rfl, f10⟩, f1, fun a ha => f4 a (h4 a ha), f7, f8, f9, by omega, by omega⟩
theorem Lay.r0_0 {u : zM} (h : Lay u) : mR u 0 0 = some 17 := (h.1 (0, 0, 17, 8) (List.mem_of_getElem? (i := 0) rfl)).1
theorem Lay.n17 {u : zM} (h : Lay u) : mN u 17 = 8 := (h.1 (0, 0, 17, 8) (List.mem_of_getElem? (i := 0) rfl)).2
theorem Lay.r0_1 {u : zM} (h : Lay u) : mR u 0 1 = some 50 := (h.1 (0, 1, 50, 20) (List.mem_of_getElem? (i := 1) rfl)).1
theorem Lay.n50 {u : zM} (h : Lay u) : mN u 50 = 20 := (h.1 (0, 1, 50, 20) (List.mem_of_getElem? (i := 1) rfl)).2
theorem Lay.r0_2 {u : zM} (h : Lay u) : mR u 0 2 = some 51 := (h.1 (0, 2, 51, 300) (List.mem_of_getElem? (i := 2) rfl)).1
theorem Lay.n51 {u : zM} (h : Lay u) : mN u 51 = 300 := (h.1 (0, 2, 51, 300) (List.mem_of_getElem? (i := 2) rfl)).2
theorem Lay.r0_3 {u : zM} (h : Lay u) : mR u 0 3 = some 20 := (h.1 (0, 3, 20, 200) (List.mem_of_getElem? (i := 3) rfl)).1
theorem Lay.n20 {u : zM} (h : Lay u) : mN u 20 = 200 := (h.1 (0, 3, 20, 200) (List.mem_of_getElem? (i := 3) rfl)).2
theorem Lay.r0_4 {u : zM} (h : Lay u) : mR u 0 4 = some 21 := (h.1 (0, 4, 21, 8) (List.mem_of_getElem? (i := 4) rfl)).1
theorem Lay.n21 {u : zM} (h : Lay u) : mN u 21 = 8 := (h.1 (0, 4, 21, 8) (List.mem_of_getElem? (i := 4) rfl)).2
theorem Lay.r0_5 {u : zM} (h : Lay u) : mR u 0 5 = some 237 := (h.1 (0, 5, 237, 12) (List.mem_of_getElem? (i := 5) rfl)).1
theorem Lay.n237 {u : zM} (h : Lay u) : mN u 237 = 12 := (h.1 (0, 5, 237, 12) (List.mem_of_getElem? (i := 5) rfl)).2
theorem Lay.r0_6 {u : zM} (h : Lay u) : mR u 0 6 = some 269 := (h.1 (0, 6, 269, 12) (List.mem_of_getElem? (i := 6) rfl)).1
theorem Lay.n269 {u : zM} (h : Lay u) : mN u 269 = 12 := (h.1 (0, 6, 269, 12) (List.mem_of_getElem? (i := 6) rfl)).2
theorem Lay.r0_7 {u : zM} (h : Lay u) : mR u 0 7 = some 301 := (h.1 (0, 7, 301, 64) (List.mem_of_getElem? (i := 7) rfl)).1
theorem Lay.n301 {u : zM} (h : Lay u) : mN u 301 = 64 := (h.1 (0, 7, 301, 64) (List.mem_of_getElem? (i := 7) rfl)).2
theorem Lay.r0_8 {u : zM} (h : Lay u) : mR u 0 8 = some 333 := (h.1 (0, 8, 333, 64) (List.mem_of_getElem? (i := 8) rfl)).1
theorem Lay.n333 {u : zM} (h : Lay u) : mN u 333 = 64 := (h.1 (0, 8, 333, 64) (List.mem_of_getElem? (i := 8) rfl)).2
theorem Lay.r0_9 {u : zM} (h : Lay u) : mR u 0 9 = some 365 := (h.1 (0, 9, 365, 13) (List.mem_of_getElem? (i := 9) rfl)).1
theorem Lay.n365 {u : zM} (h : Lay u) : mN u 365 = 13 := (h.1 (0, 9, 365, 13) (List.mem_of_getElem? (i := 9) rfl)).2
theorem Lay.r0_10 {u : zM} (h : Lay u) : mR u 0 10 = some 397 := (h.1 (0, 10, 397, 400) (List.mem_of_getElem? (i := 10) rfl)).1
theorem Lay.n397 {u : zM} (h : Lay u) : mN u 397 = 400 := (h.1 (0, 10, 397, 400) (List.mem_of_getElem? (i := 10) rfl)).2
theorem Lay.r0_11 {u : zM} (h : Lay u) : mR u 0 11 = some 429 := (h.1 (0, 11, 429, 936) (List.mem_of_getElem? (i := 11) rfl)).1
theorem Lay.n429 {u : zM} (h : Lay u) : mN u 429 = 936 := (h.1 (0, 11, 429, 936) (List.mem_of_getElem? (i := 11) rfl)).2
theorem Lay.r0_12 {u : zM} (h : Lay u) : mR u 0 12 = some 78 := (h.1 (0, 12, 78, 400) (List.mem_of_getElem? (i := 12) rfl)).1
theorem Lay.n78 {u : zM} (h : Lay u) : mN u 78 = 400 := (h.1 (0, 12, 78, 400) (List.mem_of_getElem? (i := 12) rfl)).2
theorem Lay.r0_13 {u : zM} (h : Lay u) : mR u 0 13 = some 1 := (h.1 (0, 13, 1, 0) (List.mem_of_getElem? (i := 13) rfl)).1
theorem Lay.n1 {u : zM} (h : Lay u) : mN u 1 = 0 := (h.1 (0, 13, 1, 0) (List.mem_of_getElem? (i := 13) rfl)).2
theorem Lay.r0_27 {u : zM} (h : Lay u) : mR u 0 27 = some 2 := (h.1 (0, 27, 2, 0) (List.mem_of_getElem? (i := 14) rfl)).1
theorem Lay.n2 {u : zM} (h : Lay u) : mN u 2 = 0 := (h.1 (0, 27, 2, 0) (List.mem_of_getElem? (i := 14) rfl)).2
theorem Lay.r0_28 {u : zM} (h : Lay u) : mR u 0 28 = some 461 := (h.1 (0, 28, 461, 8) (List.mem_of_getElem? (i := 15) rfl)).1
theorem Lay.n461 {u : zM} (h : Lay u) : mN u 461 = 8 := (h.1 (0, 28, 461, 8) (List.mem_of_getElem? (i := 15) rfl)).2
theorem Lay.r0_29 {u : zM} (h : Lay u) : mR u 0 29 = some 493 := (h.1 (0, 29, 493, 8) (List.mem_of_getElem? (i := 16) rfl)).1
theorem Lay.n493 {u : zM} (h : Lay u) : mN u 493 = 8 := (h.1 (0, 29, 493, 8) (List.mem_of_getElem? (i := 16) rfl)).2
theorem Lay.r0_30 {u : zM} (h : Lay u) : mR u 0 30 = some 525 := (h.1 (0, 30, 525, 8) (List.mem_of_getElem? (i := 17) rfl)).1
theorem Lay.n525 {u : zM} (h : Lay u) : mN u 525 = 8 := (h.1 (0, 30, 525, 8) (List.mem_of_getElem? (i := 17) rfl)).2
theorem Lay.r0_31 {u : zM} (h : Lay u) : mR u 0 31 = some 557 := (h.1 (0, 31, 557, 20) (List.mem_of_getElem? (i := 18) rfl)).1
theorem Lay.n557 {u : zM} (h : Lay u) : mN u 557 = 20 := (h.1 (0, 31, 557, 20) (List.mem_of_getElem? (i := 18) rfl)).2
theorem Lay.r0_32 {u : zM} (h : Lay u) : mR u 0 32 = some 589 := (h.1 (0, 32, 589, 20) (List.mem_of_getElem? (i := 19) rfl)).1
theorem Lay.n589 {u : zM} (h : Lay u) : mN u 589 = 20 := (h.1 (0, 32, 589, 20) (List.mem_of_getElem? (i := 19) rfl)).2
theorem Lay.r0_33 {u : zM} (h : Lay u) : mR u 0 33 = some 621 := (h.1 (0, 33, 621, 8) (List.mem_of_getElem? (i := 20) rfl)).1
theorem Lay.n621 {u : zM} (h : Lay u) : mN u 621 = 8 := (h.1 (0, 33, 621, 8) (List.mem_of_getElem? (i := 20) rfl)).2
theorem Lay.r1_0 {u : zM} (h : Lay u) : mR u 1 0 = some 46 := (h.1 (1, 0, 46, 400) (List.mem_of_getElem? (i := 21) rfl)).1
theorem Lay.n46 {u : zM} (h : Lay u) : mN u 46 = 400 := (h.1 (1, 0, 46, 400) (List.mem_of_getElem? (i := 21) rfl)).2
theorem Lay.r1_1 {u : zM} (h : Lay u) : mR u 1 1 = some 205 := (h.1 (1, 1, 205, 400) (List.mem_of_getElem? (i := 22) rfl)).1
theorem Lay.n205 {u : zM} (h : Lay u) : mN u 205 = 400 := (h.1 (1, 1, 205, 400) (List.mem_of_getElem? (i := 22) rfl)).2
theorem Lay.r2_0 {u : zM} (h : Lay u) : mR u 2 0 = some 19 := (h.1 (2, 0, 19, 6) (List.mem_of_getElem? (i := 23) rfl)).1
theorem Lay.n19 {u : zM} (h : Lay u) : mN u 19 = 6 := (h.1 (2, 0, 19, 6) (List.mem_of_getElem? (i := 23) rfl)).2
theorem Lay.r2_1 {u : zM} (h : Lay u) : mR u 2 1 = some 18 := (h.1 (2, 1, 18, 6) (List.mem_of_getElem? (i := 24) rfl)).1
theorem Lay.n18 {u : zM} (h : Lay u) : mN u 18 = 6 := (h.1 (2, 1, 18, 6) (List.mem_of_getElem? (i := 24) rfl)).2
theorem Lay.r2_2 {u : zM} (h : Lay u) : mR u 2 2 = some 109 := (h.1 (2, 2, 109, 6) (List.mem_of_getElem? (i := 25) rfl)).1
theorem Lay.n109 {u : zM} (h : Lay u) : mN u 109 = 6 := (h.1 (2, 2, 109, 6) (List.mem_of_getElem? (i := 25) rfl)).2
theorem Lay.r2_3 {u : zM} (h : Lay u) : mR u 2 3 = some 141 := (h.1 (2, 3, 141, 6) (List.mem_of_getElem? (i := 26) rfl)).1
theorem Lay.n141 {u : zM} (h : Lay u) : mN u 141 = 6 := (h.1 (2, 3, 141, 6) (List.mem_of_getElem? (i := 26) rfl)).2
theorem Lay.r2_4 {u : zM} (h : Lay u) : mR u 2 4 = some 173 := (h.1 (2, 4, 173, 6) (List.mem_of_getElem? (i := 27) rfl)).1
theorem Lay.n173 {u : zM} (h : Lay u) : mN u 173 = 6 := (h.1 (2, 4, 173, 6) (List.mem_of_getElem? (i := 27) rfl)).2
theorem Lay.r2_10 {u : zM} (h : Lay u) : mR u 2 10 = some 0 := (h.1 (2, 10, 0, 0) (List.mem_of_getElem? (i := 28) rfl)).1
theorem Lay.n0 {u : zM} (h : Lay u) : mN u 0 = 0 := (h.1 (2, 10, 0, 0) (List.mem_of_getElem? (i := 28) rfl)).2
theorem Lay.r3_3 {u : zM} (h : Lay u) : mR u 3 3 = some 23 := (h.1 (3, 3, 23, 8) (List.mem_of_getElem? (i := 29) rfl)).1
theorem Lay.n23 {u : zM} (h : Lay u) : mN u 23 = 8 := (h.1 (3, 3, 23, 8) (List.mem_of_getElem? (i := 29) rfl)).2
theorem Lay.r3_4 {u : zM} (h : Lay u) : mR u 3 4 = some 55 := (h.1 (3, 4, 55, 8) (List.mem_of_getElem? (i := 30) rfl)).1
theorem Lay.n55 {u : zM} (h : Lay u) : mN u 55 = 8 := (h.1 (3, 4, 55, 8) (List.mem_of_getElem? (i := 30) rfl)).2
theorem Lay.r3_5 {u : zM} (h : Lay u) : mR u 3 5 = some 87 := (h.1 (3, 5, 87, 8) (List.mem_of_getElem? (i := 31) rfl)).1
theorem Lay.n87 {u : zM} (h : Lay u) : mN u 87 = 8 := (h.1 (3, 5, 87, 8) (List.mem_of_getElem? (i := 31) rfl)).2
theorem Lay.r3_6 {u : zM} (h : Lay u) : mR u 3 6 = some 749 := (h.1 (3, 6, 749, 8) (List.mem_of_getElem? (i := 32) rfl)).1
theorem Lay.n749 {u : zM} (h : Lay u) : mN u 749 = 8 := (h.1 (3, 6, 749, 8) (List.mem_of_getElem? (i := 32) rfl)).2
theorem Lay.r3_7 {u : zM} (h : Lay u) : mR u 3 7 = some 781 := (h.1 (3, 7, 781, 8) (List.mem_of_getElem? (i := 33) rfl)).1
theorem Lay.n781 {u : zM} (h : Lay u) : mN u 781 = 8 := (h.1 (3, 7, 781, 8) (List.mem_of_getElem? (i := 33) rfl)).2
theorem Lay.r3_8 {u : zM} (h : Lay u) : mR u 3 8 = some 813 := (h.1 (3, 8, 813, 8) (List.mem_of_getElem? (i := 34) rfl)).1
theorem Lay.n813 {u : zM} (h : Lay u) : mN u 813 = 8 := (h.1 (3, 8, 813, 8) (List.mem_of_getElem? (i := 34) rfl)).2
theorem Lay.r3_9 {u : zM} (h : Lay u) : mR u 3 9 = some 845 := (h.1 (3, 9, 845, 8) (List.mem_of_getElem? (i := 35) rfl)).1
theorem Lay.n845 {u : zM} (h : Lay u) : mN u 845 = 8 := (h.1 (3, 9, 845, 8) (List.mem_of_getElem? (i := 35) rfl)).2
theorem Lay.r3_10 {u : zM} (h : Lay u) : mR u 3 10 = some 877 := (h.1 (3, 10, 877, 8) (List.mem_of_getElem? (i := 36) rfl)).1
theorem Lay.n877 {u : zM} (h : Lay u) : mN u 877 = 8 := (h.1 (3, 10, 877, 8) (List.mem_of_getElem? (i := 36) rfl)).2
theorem Lay.r3_11 {u : zM} (h : Lay u) : mR u 3 11 = some 909 := (h.1 (3, 11, 909, 8) (List.mem_of_getElem? (i := 37) rfl)).1
theorem Lay.n909 {u : zM} (h : Lay u) : mN u 909 = 8 := (h.1 (3, 11, 909, 8) (List.mem_of_getElem? (i := 37) rfl)).2
theorem Lay.r3_12 {u : zM} (h : Lay u) : mR u 3 12 = some 941 := (h.1 (3, 12, 941, 8) (List.mem_of_getElem? (i := 38) rfl)).1
theorem Lay.n941 {u : zM} (h : Lay u) : mN u 941 = 8 := (h.1 (3, 12, 941, 8) (List.mem_of_getElem? (i := 38) rfl)).2
theorem Lay.r3_13 {u : zM} (h : Lay u) : mR u 3 13 = some 973 := (h.1 (3, 13, 973, 8) (List.mem_of_getElem? (i := 39) rfl)).1
theorem Lay.n973 {u : zM} (h : Lay u) : mN u 973 = 8 := (h.1 (3, 13, 973, 8) (List.mem_of_getElem? (i := 39) rfl)).2
theorem Lay.r3_14 {u : zM} (h : Lay u) : mR u 3 14 = some 1005 := (h.1 (3, 14, 1005, 8) (List.mem_of_getElem? (i := 40) rfl)).1
theorem Lay.n1005 {u : zM} (h : Lay u) : mN u 1005 = 8 := (h.1 (3, 14, 1005, 8) (List.mem_of_getElem? (i := 40) rfl)).2
theorem Lay.r3_15 {u : zM} (h : Lay u) : mR u 3 15 = some 1037 := (h.1 (3, 15, 1037, 8) (List.mem_of_getElem? (i := 41) rfl)).1
theorem Lay.n1037 {u : zM} (h : Lay u) : mN u 1037 = 8 := (h.1 (3, 15, 1037, 8) (List.mem_of_getElem? (i := 41) rfl)).2
theorem Lay.r3_16 {u : zM} (h : Lay u) : mR u 3 16 = some 1069 := (h.1 (3, 16, 1069, 8) (List.mem_of_getElem? (i := 42) rfl)).1
theorem Lay.n1069 {u : zM} (h : Lay u) : mN u 1069 = 8 := (h.1 (3, 16, 1069, 8) (List.mem_of_getElem? (i := 42) rfl)).2
theorem Lay.r3_17 {u : zM} (h : Lay u) : mR u 3 17 = some 1101 := (h.1 (3, 17, 1101, 8) (List.mem_of_getElem? (i := 43) rfl)).1
theorem Lay.n1101 {u : zM} (h : Lay u) : mN u 1101 = 8 := (h.1 (3, 17, 1101, 8) (List.mem_of_getElem? (i := 43) rfl)).2
theorem Lay.r3_18 {u : zM} (h : Lay u) : mR u 3 18 = some 1133 := (h.1 (3, 18, 1133, 8) (List.mem_of_getElem? (i := 44) rfl)).1
theorem Lay.n1133 {u : zM} (h : Lay u) : mN u 1133 = 8 := (h.1 (3, 18, 1133, 8) (List.mem_of_getElem? (i := 44) rfl)).2
theorem Lay.r3_19 {u : zM} (h : Lay u) : mR u 3 19 = some 1165 := (h.1 (3, 19, 1165, 8) (List.mem_of_getElem? (i := 45) rfl)).1
theorem Lay.n1165 {u : zM} (h : Lay u) : mN u 1165 = 8 := (h.1 (3, 19, 1165, 8) (List.mem_of_getElem? (i := 45) rfl)).2
theorem Lay.r3_20 {u : zM} (h : Lay u) : mR u 3 20 = some 1197 := (h.1 (3, 20, 1197, 20) (List.mem_of_getElem? (i := 46) rfl)).1
theorem Lay.n1197 {u : zM} (h : Lay u) : mN u 1197 = 20 := (h.1 (3, 20, 1197, 20) (List.mem_of_getElem? (i := 46) rfl)).2
theorem Lay.r3_21 {u : zM} (h : Lay u) : mR u 3 21 = some 1229 := (h.1 (3, 21, 1229, 20) (List.mem_of_getElem? (i := 47) rfl)).1
theorem Lay.n1229 {u : zM} (h : Lay u) : mN u 1229 = 20 := (h.1 (3, 21, 1229, 20) (List.mem_of_getElem? (i := 47) rfl)).2
theorem Lay.r3_22 {u : zM} (h : Lay u) : mR u 3 22 = some 1261 := (h.1 (3, 22, 1261, 20) (List.mem_of_getElem? (i := 48) rfl)).1
theorem Lay.n1261 {u : zM} (h : Lay u) : mN u 1261 = 20 := (h.1 (3, 22, 1261, 20) (List.mem_of_getElem? (i := 48) rfl)).2
theorem Lay.r3_23 {u : zM} (h : Lay u) : mR u 3 23 = some 1293 := (h.1 (3, 23, 1293, 20) (List.mem_of_getElem? (i := 49) rfl)).1
theorem Lay.n1293 {u : zM} (h : Lay u) : mN u 1293 = 20 := (h.1 (3, 23, 1293, 20) (List.mem_of_getElem? (i := 49) rfl)).2
theorem Lay.r3_24 {u : zM} (h : Lay u) : mR u 3 24 = some 1325 := (h.1 (3, 24, 1325, 20) (List.mem_of_getElem? (i := 50) rfl)).1
theorem Lay.n1325 {u : zM} (h : Lay u) : mN u 1325 = 20 := (h.1 (3, 24, 1325, 20) (List.mem_of_getElem? (i := 50) rfl)).2
theorem Lay.r3_25 {u : zM} (h : Lay u) : mR u 3 25 = some 1357 := (h.1 (3, 25, 1357, 20) (List.mem_of_getElem? (i := 51) rfl)).1
theorem Lay.n1357 {u : zM} (h : Lay u) : mN u 1357 = 20 := (h.1 (3, 25, 1357, 20) (List.mem_of_getElem? (i := 51) rfl)).2
theorem Lay.r3_26 {u : zM} (h : Lay u) : mR u 3 26 = some 1389 := (h.1 (3, 26, 1389, 20) (List.mem_of_getElem? (i := 52) rfl)).1
theorem Lay.n1389 {u : zM} (h : Lay u) : mN u 1389 = 20 := (h.1 (3, 26, 1389, 20) (List.mem_of_getElem? (i := 52) rfl)).2
theorem Lay.r3_27 {u : zM} (h : Lay u) : mR u 3 27 = some 1421 := (h.1 (3, 27, 1421, 20) (List.mem_of_getElem? (i := 53) rfl)).1
theorem Lay.n1421 {u : zM} (h : Lay u) : mN u 1421 = 20 := (h.1 (3, 27, 1421, 20) (List.mem_of_getElem? (i := 53) rfl)).2
theorem Lay.r3_28 {u : zM} (h : Lay u) : mR u 3 28 = some 1453 := (h.1 (3, 28, 1453, 20) (List.mem_of_getElem? (i := 54) rfl)).1
theorem Lay.n1453 {u : zM} (h : Lay u) : mN u 1453 = 20 := (h.1 (3, 28, 1453, 20) (List.mem_of_getElem? (i := 54) rfl)).2
theorem Lay.r3_29 {u : zM} (h : Lay u) : mR u 3 29 = some 1485 := (h.1 (3, 29, 1485, 20) (List.mem_of_getElem? (i := 55) rfl)).1
theorem Lay.n1485 {u : zM} (h : Lay u) : mN u 1485 = 20 := (h.1 (3, 29, 1485, 20) (List.mem_of_getElem? (i := 55) rfl)).2
theorem Lay.r3_30 {u : zM} (h : Lay u) : mR u 3 30 = some 1517 := (h.1 (3, 30, 1517, 20) (List.mem_of_getElem? (i := 56) rfl)).1
theorem Lay.n1517 {u : zM} (h : Lay u) : mN u 1517 = 20 := (h.1 (3, 30, 1517, 20) (List.mem_of_getElem? (i := 56) rfl)).2
theorem Lay.r3_31 {u : zM} (h : Lay u) : mR u 3 31 = some 1549 := (h.1 (3, 31, 1549, 20) (List.mem_of_getElem? (i := 57) rfl)).1
theorem Lay.n1549 {u : zM} (h : Lay u) : mN u 1549 = 20 := (h.1 (3, 31, 1549, 20) (List.mem_of_getElem? (i := 57) rfl)).2
theorem Lay.r3_32 {u : zM} (h : Lay u) : mR u 3 32 = some 1581 := (h.1 (3, 32, 1581, 20) (List.mem_of_getElem? (i := 58) rfl)).1
theorem Lay.n1581 {u : zM} (h : Lay u) : mN u 1581 = 20 := (h.1 (3, 32, 1581, 20) (List.mem_of_getElem? (i := 58) rfl)).2
theorem Lay.r3_33 {u : zM} (h : Lay u) : mR u 3 33 = some 1613 := (h.1 (3, 33, 1613, 20) (List.mem_of_getElem? (i := 59) rfl)).1
theorem Lay.n1613 {u : zM} (h : Lay u) : mN u 1613 = 20 := (h.1 (3, 33, 1613, 20) (List.mem_of_getElem? (i := 59) rfl)).2
theorem Lay.r3_34 {u : zM} (h : Lay u) : mR u 3 34 = some 16 := (h.1 (3, 34, 16, 20) (List.mem_of_getElem? (i := 60) rfl)).1
theorem Lay.n16 {u : zM} (h : Lay u) : mN u 16 = 20 := (h.1 (3, 34, 16, 20) (List.mem_of_getElem? (i := 60) rfl)).2
theorem Lay.r3_35 {u : zM} (h : Lay u) : mR u 3 35 = some 1645 := (h.1 (3, 35, 1645, 20) (List.mem_of_getElem? (i := 61) rfl)).1
theorem Lay.n1645 {u : zM} (h : Lay u) : mN u 1645 = 20 := (h.1 (3, 35, 1645, 20) (List.mem_of_getElem? (i := 61) rfl)).2
theorem Lay.r3_36 {u : zM} (h : Lay u) : mR u 3 36 = some 1677 := (h.1 (3, 36, 1677, 20) (List.mem_of_getElem? (i := 62) rfl)).1
theorem Lay.n1677 {u : zM} (h : Lay u) : mN u 1677 = 20 := (h.1 (3, 36, 1677, 20) (List.mem_of_getElem? (i := 62) rfl)).2
theorem Lay.r3_37 {u : zM} (h : Lay u) : mR u 3 37 = some 1709 := (h.1 (3, 37, 1709, 20) (List.mem_of_getElem? (i := 63) rfl)).1
theorem Lay.n1709 {u : zM} (h : Lay u) : mN u 1709 = 20 := (h.1 (3, 37, 1709, 20) (List.mem_of_getElem? (i := 63) rfl)).2
theorem Lay.r3_39 {u : zM} (h : Lay u) : mR u 3 39 = some 1741 := (h.1 (3, 39, 1741, 8) (List.mem_of_getElem? (i := 64) rfl)).1
theorem Lay.n1741 {u : zM} (h : Lay u) : mN u 1741 = 8 := (h.1 (3, 39, 1741, 8) (List.mem_of_getElem? (i := 64) rfl)).2
theorem Lay.r3_40 {u : zM} (h : Lay u) : mR u 3 40 = some 110 := (h.1 (3, 40, 110, 400) (List.mem_of_getElem? (i := 65) rfl)).1
theorem Lay.n110 {u : zM} (h : Lay u) : mN u 110 = 400 := (h.1 (3, 40, 110, 400) (List.mem_of_getElem? (i := 65) rfl)).2
theorem Lay.r3_48 {u : zM} (h : Lay u) : mR u 3 48 = some 24 := (h.1 (3, 48, 24, 9) (List.mem_of_getElem? (i := 66) rfl)).1
theorem Lay.n24 {u : zM} (h : Lay u) : mN u 24 = 9 := (h.1 (3, 48, 24, 9) (List.mem_of_getElem? (i := 66) rfl)).2
theorem Lay.r3_49 {u : zM} (h : Lay u) : mR u 3 49 = some 151 := (h.1 (3, 49, 151, 9) (List.mem_of_getElem? (i := 67) rfl)).1
theorem Lay.n151 {u : zM} (h : Lay u) : mN u 151 = 9 := (h.1 (3, 49, 151, 9) (List.mem_of_getElem? (i := 67) rfl)).2
theorem Lay.r3_50 {u : zM} (h : Lay u) : mR u 3 50 = some 1837 := (h.1 (3, 50, 1837, 12) (List.mem_of_getElem? (i := 68) rfl)).1
theorem Lay.n1837 {u : zM} (h : Lay u) : mN u 1837 = 12 := (h.1 (3, 50, 1837, 12) (List.mem_of_getElem? (i := 68) rfl)).2
theorem Lay.r3_51 {u : zM} (h : Lay u) : mR u 3 51 = some 1869 := (h.1 (3, 51, 1869, 12) (List.mem_of_getElem? (i := 69) rfl)).1
theorem Lay.n1869 {u : zM} (h : Lay u) : mN u 1869 = 12 := (h.1 (3, 51, 1869, 12) (List.mem_of_getElem? (i := 69) rfl)).2
theorem Lay.r3_54 {u : zM} (h : Lay u) : mR u 3 54 = some 26 := (h.1 (3, 54, 26, 5) (List.mem_of_getElem? (i := 70) rfl)).1
theorem Lay.n26 {u : zM} (h : Lay u) : mN u 26 = 5 := (h.1 (3, 54, 26, 5) (List.mem_of_getElem? (i := 70) rfl)).2
theorem Lay.r3_55 {u : zM} (h : Lay u) : mR u 3 55 = some 58 := (h.1 (3, 55, 58, 13) (List.mem_of_getElem? (i := 71) rfl)).1
theorem Lay.n58 {u : zM} (h : Lay u) : mN u 58 = 13 := (h.1 (3, 55, 58, 13) (List.mem_of_getElem? (i := 71) rfl)).2
theorem Lay.r3_56 {u : zM} (h : Lay u) : mR u 3 56 = some 1901 := (h.1 (3, 56, 1901, 13) (List.mem_of_getElem? (i := 72) rfl)).1
theorem Lay.n1901 {u : zM} (h : Lay u) : mN u 1901 = 13 := (h.1 (3, 56, 1901, 13) (List.mem_of_getElem? (i := 72) rfl)).2
theorem Lay.r3_57 {u : zM} (h : Lay u) : mR u 3 57 = some 1933 := (h.1 (3, 57, 1933, 420) (List.mem_of_getElem? (i := 73) rfl)).1
theorem Lay.n1933 {u : zM} (h : Lay u) : mN u 1933 = 420 := (h.1 (3, 57, 1933, 420) (List.mem_of_getElem? (i := 73) rfl)).2
theorem Lay.r3_58 {u : zM} (h : Lay u) : mR u 3 58 = some 1965 := (h.1 (3, 58, 1965, 300) (List.mem_of_getElem? (i := 74) rfl)).1
theorem Lay.n1965 {u : zM} (h : Lay u) : mN u 1965 = 300 := (h.1 (3, 58, 1965, 300) (List.mem_of_getElem? (i := 74) rfl)).2
theorem Lay.r3_59 {u : zM} (h : Lay u) : mR u 3 59 = some 1997 := (h.1 (3, 59, 1997, 300) (List.mem_of_getElem? (i := 75) rfl)).1
theorem Lay.n1997 {u : zM} (h : Lay u) : mN u 1997 = 300 := (h.1 (3, 59, 1997, 300) (List.mem_of_getElem? (i := 75) rfl)).2
theorem Lay.r3_60 {u : zM} (h : Lay u) : mR u 3 60 = some 2029 := (h.1 (3, 60, 2029, 300) (List.mem_of_getElem? (i := 76) rfl)).1
theorem Lay.n2029 {u : zM} (h : Lay u) : mN u 2029 = 300 := (h.1 (3, 60, 2029, 300) (List.mem_of_getElem? (i := 76) rfl)).2
theorem Lay.r3_61 {u : zM} (h : Lay u) : mR u 3 61 = some 2061 := (h.1 (3, 61, 2061, 300) (List.mem_of_getElem? (i := 77) rfl)).1
theorem Lay.n2061 {u : zM} (h : Lay u) : mN u 2061 = 300 := (h.1 (3, 61, 2061, 300) (List.mem_of_getElem? (i := 77) rfl)).2
theorem Lay.r3_62 {u : zM} (h : Lay u) : mR u 3 62 = some 2093 := (h.1 (3, 62, 2093, 300) (List.mem_of_getElem? (i := 78) rfl)).1
theorem Lay.n2093 {u : zM} (h : Lay u) : mN u 2093 = 300 := (h.1 (3, 62, 2093, 300) (List.mem_of_getElem? (i := 78) rfl)).2
theorem Lay.r3_63 {u : zM} (h : Lay u) : mR u 3 63 = some 2125 := (h.1 (3, 63, 2125, 300) (List.mem_of_getElem? (i := 79) rfl)).1
theorem Lay.n2125 {u : zM} (h : Lay u) : mN u 2125 = 300 := (h.1 (3, 63, 2125, 300) (List.mem_of_getElem? (i := 79) rfl)).2
theorem Lay.r3_65 {u : zM} (h : Lay u) : mR u 3 65 = some 2157 := (h.1 (3, 65, 2157, 20) (List.mem_of_getElem? (i := 80) rfl)).1
theorem Lay.n2157 {u : zM} (h : Lay u) : mN u 2157 = 20 := (h.1 (3, 65, 2157, 20) (List.mem_of_getElem? (i := 80) rfl)).2
theorem Lay.r3_66 {u : zM} (h : Lay u) : mR u 3 66 = some 2189 := (h.1 (3, 66, 2189, 8) (List.mem_of_getElem? (i := 81) rfl)).1
theorem Lay.n2189 {u : zM} (h : Lay u) : mN u 2189 = 8 := (h.1 (3, 66, 2189, 8) (List.mem_of_getElem? (i := 81) rfl)).2
theorem Lay.r3_67 {u : zM} (h : Lay u) : mR u 3 67 = some 2221 := (h.1 (3, 67, 2221, 20) (List.mem_of_getElem? (i := 82) rfl)).1
theorem Lay.n2221 {u : zM} (h : Lay u) : mN u 2221 = 20 := (h.1 (3, 67, 2221, 20) (List.mem_of_getElem? (i := 82) rfl)).2
theorem Lay.r3_68 {u : zM} (h : Lay u) : mR u 3 68 = some 2253 := (h.1 (3, 68, 2253, 20) (List.mem_of_getElem? (i := 83) rfl)).1
theorem Lay.n2253 {u : zM} (h : Lay u) : mN u 2253 = 20 := (h.1 (3, 68, 2253, 20) (List.mem_of_getElem? (i := 83) rfl)).2
theorem Lay.r3_72 {u : zM} (h : Lay u) : mR u 3 72 = some 2285 := (h.1 (3, 72, 2285, 200) (List.mem_of_getElem? (i := 84) rfl)).1
theorem Lay.n2285 {u : zM} (h : Lay u) : mN u 2285 = 200 := (h.1 (3, 72, 2285, 200) (List.mem_of_getElem? (i := 84) rfl)).2
theorem Lay.r3_73 {u : zM} (h : Lay u) : mR u 3 73 = some 2317 := (h.1 (3, 73, 2317, 200) (List.mem_of_getElem? (i := 85) rfl)).1
theorem Lay.n2317 {u : zM} (h : Lay u) : mN u 2317 = 200 := (h.1 (3, 73, 2317, 200) (List.mem_of_getElem? (i := 85) rfl)).2
theorem Lay.r3_74 {u : zM} (h : Lay u) : mR u 3 74 = some 2349 := (h.1 (3, 74, 2349, 200) (List.mem_of_getElem? (i := 86) rfl)).1
theorem Lay.n2349 {u : zM} (h : Lay u) : mN u 2349 = 200 := (h.1 (3, 74, 2349, 200) (List.mem_of_getElem? (i := 86) rfl)).2
theorem Lay.r3_75 {u : zM} (h : Lay u) : mR u 3 75 = some 2381 := (h.1 (3, 75, 2381, 200) (List.mem_of_getElem? (i := 87) rfl)).1
theorem Lay.n2381 {u : zM} (h : Lay u) : mN u 2381 = 200 := (h.1 (3, 75, 2381, 200) (List.mem_of_getElem? (i := 87) rfl)).2
theorem Lay.r3_76 {u : zM} (h : Lay u) : mR u 3 76 = some 2413 := (h.1 (3, 76, 2413, 200) (List.mem_of_getElem? (i := 88) rfl)).1
theorem Lay.n2413 {u : zM} (h : Lay u) : mN u 2413 = 200 := (h.1 (3, 76, 2413, 200) (List.mem_of_getElem? (i := 88) rfl)).2
theorem Lay.r3_77 {u : zM} (h : Lay u) : mR u 3 77 = some 15 := (h.1 (3, 77, 15, 200) (List.mem_of_getElem? (i := 89) rfl)).1
theorem Lay.n15 {u : zM} (h : Lay u) : mN u 15 = 200 := (h.1 (3, 77, 15, 200) (List.mem_of_getElem? (i := 89) rfl)).2
theorem Lay.r3_79 {u : zM} (h : Lay u) : mR u 3 79 = some 2445 := (h.1 (3, 79, 2445, 6) (List.mem_of_getElem? (i := 90) rfl)).1
theorem Lay.n2445 {u : zM} (h : Lay u) : mN u 2445 = 6 := (h.1 (3, 79, 2445, 6) (List.mem_of_getElem? (i := 90) rfl)).2
theorem Lay.r3_80 {u : zM} (h : Lay u) : mR u 3 80 = some 2477 := (h.1 (3, 80, 2477, 6) (List.mem_of_getElem? (i := 91) rfl)).1
theorem Lay.n2477 {u : zM} (h : Lay u) : mN u 2477 = 6 := (h.1 (3, 80, 2477, 6) (List.mem_of_getElem? (i := 91) rfl)).2
theorem Lay.r3_81 {u : zM} (h : Lay u) : mR u 3 81 = some 2509 := (h.1 (3, 81, 2509, 6) (List.mem_of_getElem? (i := 92) rfl)).1
theorem Lay.n2509 {u : zM} (h : Lay u) : mN u 2509 = 6 := (h.1 (3, 81, 2509, 6) (List.mem_of_getElem? (i := 92) rfl)).2
theorem Lay.r3_82 {u : zM} (h : Lay u) : mR u 3 82 = some 2541 := (h.1 (3, 82, 2541, 6) (List.mem_of_getElem? (i := 93) rfl)).1
theorem Lay.n2541 {u : zM} (h : Lay u) : mN u 2541 = 6 := (h.1 (3, 82, 2541, 6) (List.mem_of_getElem? (i := 93) rfl)).2
theorem Lay.r3_83 {u : zM} (h : Lay u) : mR u 3 83 = some 2573 := (h.1 (3, 83, 2573, 6) (List.mem_of_getElem? (i := 94) rfl)).1
theorem Lay.n2573 {u : zM} (h : Lay u) : mN u 2573 = 6 := (h.1 (3, 83, 2573, 6) (List.mem_of_getElem? (i := 94) rfl)).2
theorem Lay.r3_84 {u : zM} (h : Lay u) : mR u 3 84 = some 25 := (h.1 (3, 84, 25, 6) (List.mem_of_getElem? (i := 95) rfl)).1
theorem Lay.n25 {u : zM} (h : Lay u) : mN u 25 = 6 := (h.1 (3, 84, 25, 6) (List.mem_of_getElem? (i := 95) rfl)).2
theorem Lay.r3_85 {u : zM} (h : Lay u) : mR u 3 85 = some 183 := (h.1 (3, 85, 183, 6) (List.mem_of_getElem? (i := 96) rfl)).1
theorem Lay.n183 {u : zM} (h : Lay u) : mN u 183 = 6 := (h.1 (3, 85, 183, 6) (List.mem_of_getElem? (i := 96) rfl)).2
theorem Lay.r3_91 {u : zM} (h : Lay u) : mR u 3 91 = some 215 := (h.1 (3, 91, 215, 156) (List.mem_of_getElem? (i := 97) rfl)).1
theorem Lay.n215 {u : zM} (h : Lay u) : mN u 215 = 156 := (h.1 (3, 91, 215, 156) (List.mem_of_getElem? (i := 97) rfl)).2
theorem Lay.r3_92 {u : zM} (h : Lay u) : mR u 3 92 = some 2669 := (h.1 (3, 92, 2669, 8) (List.mem_of_getElem? (i := 98) rfl)).1
theorem Lay.n2669 {u : zM} (h : Lay u) : mN u 2669 = 8 := (h.1 (3, 92, 2669, 8) (List.mem_of_getElem? (i := 98) rfl)).2
theorem Lay.r3_93 {u : zM} (h : Lay u) : mR u 3 93 = some 2701 := (h.1 (3, 93, 2701, 8) (List.mem_of_getElem? (i := 99) rfl)).1
theorem Lay.n2701 {u : zM} (h : Lay u) : mN u 2701 = 8 := (h.1 (3, 93, 2701, 8) (List.mem_of_getElem? (i := 99) rfl)).2
theorem Lay.r3_94 {u : zM} (h : Lay u) : mR u 3 94 = some 2733 := (h.1 (3, 94, 2733, 8) (List.mem_of_getElem? (i := 100) rfl)).1
theorem Lay.n2733 {u : zM} (h : Lay u) : mN u 2733 = 8 := (h.1 (3, 94, 2733, 8) (List.mem_of_getElem? (i := 100) rfl)).2
theorem Lay.r3_95 {u : zM} (h : Lay u) : mR u 3 95 = some 2765 := (h.1 (3, 95, 2765, 8) (List.mem_of_getElem? (i := 101) rfl)).1
theorem Lay.n2765 {u : zM} (h : Lay u) : mN u 2765 = 8 := (h.1 (3, 95, 2765, 8) (List.mem_of_getElem? (i := 101) rfl)).2
theorem Lay.rr23 {u : zM} (h : Lay u) {i : Nat} (hi : i < 8) : mR u 23 i = some (nm 653 i) := (h.2.1 (23, 653, 8, 4) (List.mem_of_getElem? (i := 0) rfl) i hi).1
theorem Lay.nn653 {u : zM} (h : Lay u) {i : Nat} (hi : i < 8) : mN u (nm 653 i) = 4 := (h.2.1 (23, 653, 8, 4) (List.mem_of_getElem? (i := 0) rfl) i hi).2
theorem Lay.rr24 {u : zM} (h : Lay u) {i : Nat} (hi : i < 9) : mR u 24 i = some (nm 119 i) := (h.2.1 (24, 119, 9, 5) (List.mem_of_getElem? (i := 1) rfl) i hi).1
theorem Lay.nn119 {u : zM} (h : Lay u) {i : Nat} (hi : i < 9) : mN u (nm 119 i) = 5 := (h.2.1 (24, 119, 9, 5) (List.mem_of_getElem? (i := 1) rfl) i hi).2
theorem Lay.rr25 {u : zM} (h : Lay u) {i : Nat} (hi : i < 6) : mR u 25 i = some (nm 47 i) := (h.2.1 (25, 47, 6, 6) (List.mem_of_getElem? (i := 2) rfl) i hi).1
theorem Lay.nn47 {u : zM} (h : Lay u) {i : Nat} (hi : i < 6) : mN u (nm 47 i) = 6 := (h.2.1 (25, 47, 6, 6) (List.mem_of_getElem? (i := 2) rfl) i hi).2
theorem Lay.rr55 {u : zM} (h : Lay u) {i : Nat} (hi : i < 8) : mR u 55 i = some (nm 685 i) := (h.2.1 (55, 685, 8, 8) (List.mem_of_getElem? (i := 3) rfl) i hi).1
theorem Lay.nn685 {u : zM} (h : Lay u) {i : Nat} (hi : i < 8) : mN u (nm 685 i) = 8 := (h.2.1 (55, 685, 8, 8) (List.mem_of_getElem? (i := 3) rfl) i hi).2
theorem Lay.rr87 {u : zM} (h : Lay u) {i : Nat} (hi : i < 8) : mR u 87 i = some (nm 717 i) := (h.2.1 (87, 717, 8, 157) (List.mem_of_getElem? (i := 4) rfl) i hi).1
theorem Lay.nn717 {u : zM} (h : Lay u) {i : Nat} (hi : i < 8) : mN u (nm 717 i) = 157 := (h.2.1 (87, 717, 8, 157) (List.mem_of_getElem? (i := 4) rfl) i hi).2
theorem Lay.rr151 {u : zM} (h : Lay u) {i : Nat} (hi : i < 9) : mR u 151 i = some (nm 1805 i) := (h.2.1 (151, 1805, 9, 5) (List.mem_of_getElem? (i := 5) rfl) i hi).1
theorem Lay.nn1805 {u : zM} (h : Lay u) {i : Nat} (hi : i < 9) : mN u (nm 1805 i) = 5 := (h.2.1 (151, 1805, 9, 5) (List.mem_of_getElem? (i := 5) rfl) i hi).2
theorem Lay.rr183 {u : zM} (h : Lay u) {i : Nat} (hi : i < 6) : mR u 183 i = some (nm 2605 i) := (h.2.1 (183, 2605, 6, 6) (List.mem_of_getElem? (i := 6) rfl) i hi).1
theorem Lay.nn2605 {u : zM} (h : Lay u) {i : Nat} (hi : i < 6) : mN u (nm 2605 i) = 6 := (h.2.1 (183, 2605, 6, 6) (List.mem_of_getElem? (i := 6) rfl) i hi).2
theorem Lay.rr215 {u : zM} (h : Lay u) {i : Nat} (hi : i < 156) : mR u 215 i = some (nm 2637 i) := (h.2.1 (215, 2637, 156, 6) (List.mem_of_getElem? (i := 7) rfl) i hi).1
theorem Lay.nn2637 {u : zM} (h : Lay u) {i : Nat} (hi : i < 156) : mN u (nm 2637 i) = 6 := (h.2.1 (215, 2637, 156, 6) (List.mem_of_getElem? (i := 7) rfl) i hi).2
theorem Lay.rc {u : zM} (h : Lay u) {s c : Nat} (hs : s < 9) (hc : c < 5) : mR u (nm 119 s) c = some (nm 1773 (5 * s + c)) := (h.2.2.2.1 s c hs hc).1
theorem Lay.nc {u : zM} (h : Lay u) {s c : Nat} (hs : s < 9) (hc : c < 5) : mN u (nm 1773 (5 * s + c)) = 840 := (h.2.2.2.1 s c hs hc).2
