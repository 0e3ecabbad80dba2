set_option maxRecDepth 100000
/-! ===== the state that both sides hold: s a k, by the model's names ===== -/
abbrev zS : Type := Nat → Nat → Int32
/-- the model's fields and arrays that last -/
def pmF : List Nat := [0, 1, 2, 38, 41, 52, 53, 64, 69, 70, 71, 78, 86, 96]
def pmA : List Nat := [653, 685, 717, 749, 781, 813, 845, 877, 909, 941, 973, 1005, 1037, 1069, 1101, 1133, 1165, 1197, 1229, 1261, 1293, 1325, 1357, 1389, 1421, 1453, 1485, 1517, 1549, 1581, 1613, 1645, 1677, 1709, 110, 1773, 1805, 1837, 1869, 1965, 1997, 2029, 2061, 2093, 2125, 2285, 2317, 2349, 2381, 2413, 15, 2445, 2637, 2701, 2733, 2765]
def pm (a k : Nat) : Bool := (a == 3 && pmF.contains k) || (pmA.contains (nS a) && !(nS a == 1773 && decide (40 ≤ nK a)) && !(nS a == 1805 && decide (8 ≤ nK a)))
/-- the model holds the state s -/
def RepM (s : zS) (u : zM) : Prop := Lay u ∧ (∀ a k, pm a k = true → mI u a k = s a k) ∧ ∀ k, (mL u 16 k).toInt32 = s 16 k
theorem RepM.l {s : zS} {u : zM} (h : RepM s u) : Lay u := h.1
theorem RepM.i {s : zS} {u : zM} (h : RepM s u) {a k : Nat} (hp : pm a k = true := by rfl) : mI u a k = s a k := h.2.1 a k hp
theorem Lay.sI {u : zM} (h : Lay u) {a k : Nat} {v : Int32} (ha : nS a ≠ 28) : Lay (sI u a k v) := by
  refine ⟨h.1, h.2.1, h.2.2.1, h.2.2.2.1, fun i hi => ⟨(h.2.2.2.2 i hi).1, fun j => ?_⟩⟩
  refine Eq.trans (if_neg ?_) ((h.2.2.2.2 i hi).2 j)
  intro z
  exact ha (by rw [← z.1, nS_nm (by decide)])
theorem Lay.sL {u : zM} (h : Lay u) {a k : Nat} {v : Int64} : Lay (sL u a k v) := h
def lyN (st k : Nat) : Bool := layA.all (fun q => !(q.1 == st) || !(q.2.1 == k)) && layR.all (fun q => !(q.1 == st)) && layS.all (fun q => !(q.1 == st)) && !(st == 119)
def lyK (st : Nat) : Bool := layA.all (fun q => !(q.1 == st) && !(q.2.2.1 == st)) && layR.all (fun q => !(q.1 == st) && !(q.2.1 == st)) && layS.all (fun q => !(q.1 == st)) && !(st == 119) && !(st == 1773) && !(st == 28)
theorem layLt : (layA.all (fun q => decide (q.1 < 8192) && decide (q.2.2.1 < 8192)) && layR.all (fun q => decide (q.1 < 8192) && decide (q.2.1 < 8192)) && layS.all (fun q => decide (q.1 < 8192))) = true := by decide +kernel
theorem nm0 {n : Nat} : nm n 0 = n := by unfold nm; omega
theorem nmE {n st i : Nat} (h : n < 8192) (h2 : st < 8192) (e : n = nm st i) : n = st := by
  unfold nm at e; omega
theorem Lay.sR {u : zM} (h : Lay u) {st i k : Nat} {v : Option Nat} (hs : st < 8192) (hk : lyN st k = true) : Lay (sR u (nm st i) k v) := by
  have hl := layLt
  unfold lyN at hk
  simp only [Bool.and_eq_true, List.all_eq_true, Bool.or_eq_true, Bool.not_eq_true', beq_eq_false_iff_ne, decide_eq_true_eq] at hk hl
  obtain ⟨⟨⟨k1, k2⟩, k3⟩, k4⟩ := hk
  refine ⟨fun q hq => ⟨?_, (h.1 q hq).2⟩, fun q hq j hj => ⟨?_, (h.2.1 q hq j hj).2⟩, fun q hq => ?_, fun s c h1 h2 => ⟨?_, (h.2.2.2.1 s c h1 h2).2⟩, h.2.2.2.2⟩
  · rw [mR_sR, if_neg]
    · exact (h.1 q hq).1
    · intro z
      have := nmE (hl.1.1 q hq).1 hs z.1
      rcases k1 q hq with e | e
      · exact e this
      · exact e z.2
  · rw [mR_sR, if_neg]
    · exact (h.2.1 q hq j hj).1
    · intro z
      exact k2 q hq (nmE (hl.1.2 q hq).1 hs z.1)
  · rw [mR_sR, if_neg]
    · exact h.2.2.1 q hq
    · intro z
      exact k3 q hq (nmE (hl.2 q hq) hs z.1)
  · rw [mR_sR, if_neg]
    · exact (h.2.2.2.1 s c h1 h2).1
    · intro z
      exact k4 ((nm_eq (by decide) hs).mp z.1).1.symm
theorem Lay.mkc {u : zM} (h : Lay u) {st len sl : Nat} (hs : st < 8192) (hk : lyK st = true) : Lay (mkc u st len sl) := by
  have hl := layLt
  unfold lyK at hk
  simp only [Bool.and_eq_true, List.all_eq_true, Bool.or_eq_true, Bool.not_eq_true', beq_eq_false_iff_ne, decide_eq_true_eq] at hk hl
  obtain ⟨⟨⟨⟨⟨k1, k2⟩, k3⟩, k4⟩, k5⟩, k6⟩ := hk
  refine ⟨fun q hq => ⟨?_, ?_⟩, fun q hq j hj => ⟨?_, ?_⟩, fun q hq => ?_, fun s c h1 h2 => ⟨?_, ?_⟩, fun i hi => ⟨?_, fun j => ?_⟩⟩
  · rw [mR_mkc, if_neg]
    · exact (h.1 q hq).1
    · exact fun z => (k1 q hq).1 (nmE (hl.1.1 q hq).1 hs z)
  · rw [mN_mkc, if_neg]
    · exact (h.1 q hq).2
    · exact fun z => (k1 q hq).2 (nmE (hl.1.1 q hq).2 hs z)
  · rw [mR_mkc, if_neg]
    · exact (h.2.1 q hq j hj).1
    · exact fun z => (k2 q hq).1 (nmE (hl.1.2 q hq).1 hs z)
  · rw [mN_mkc, if_neg]
    · exact (h.2.1 q hq j hj).2
    · exact fun z => (k2 q hq).2 ((nm_eq (hl.1.2 q hq).2 hs).mp z).1
  · rw [mR_mkc, if_neg]
    · exact h.2.2.1 q hq
    · exact fun z => k3 q hq (nmE (hl.2 q hq) hs z)
  · rw [mR_mkc, if_neg]
    · exact (h.2.2.2.1 s c h1 h2).1
    · exact fun z => k4 ((nm_eq (by decide) hs).mp z).1.symm
  · rw [mN_mkc, if_neg]
    · exact (h.2.2.2.1 s c h1 h2).2
    · exact fun z => k5 ((nm_eq (by decide) hs).mp z).1.symm
  · rw [mN_mkc, if_neg]
    · exact (h.2.2.2.2 i hi).1
    · exact fun z => k6 ((nm_eq (by decide) hs).mp z).1.symm
  · rw [mI_mkc, if_neg]
    · exact (h.2.2.2.2 i hi).2 j
    · exact fun z => k6 ((nm_eq (by decide) hs).mp z).1.symm
theorem RepM.w {s : zS} {u : zM} (h : RepM s u) {a k : Nat} {v : Int32} (ha : nS a ≠ 28 := by decide) (h16 : a ≠ 16 := by decide) : RepM (u2 s a k v) (sI u a k v) := by
  refine ⟨h.1.sI ha, fun b j hb => ?_, fun j => ?_⟩
  · show u2 u.1 a k v b j = u2 s a k v b j
    unfold u2
    split
    · rfl
    · exact h.2.1 b j hb
  · show (mL u 16 j).toInt32 = u2 s a k v 16 j
    rw [show u2 s a k v 16 j = s 16 j from if_neg (fun z => h16 z.1.symm)]
    exact h.2.2 j
/-- what doesn't last -/
theorem RepM.f {s : zS} {u : zM} (h : RepM s u) {a k : Nat} {v : Int32} (hp : pm a k = false) (ha : nS a ≠ 28) : RepM s (sI u a k v) := by
  refine ⟨h.1.sI ha, fun b j hb => ?_, h.2.2⟩
  show u2 u.1 a k v b j = s b j
  unfold u2
  split
  · rename_i z
    rw [z.1, z.2, hp] at hb
    cases hb
  · exact h.2.1 b j hb
theorem RepM.wL {s : zS} {u : zM} (h : RepM s u) {k : Nat} {v : Int64} : RepM (u2 s 16 k v.toInt32) (sL u 16 k v) := by
  refine ⟨h.1, fun b j hb => ?_, fun j => ?_⟩
  · show mI u b j = u2 s 16 k v.toInt32 b j
    unfold u2
    rw [if_neg]
    · exact h.2.1 b j hb
    · intro z
      rw [z.1, show pm 16 j = false from rfl] at hb
      cases hb
  · rw [mL_sL]
    unfold u2
    by_cases e : j = k
    · rw [if_pos ⟨rfl, e⟩, if_pos ⟨rfl, e⟩]
    · rw [if_neg (fun z => e z.2), if_neg (fun z => e z.2)]
      exact h.2.2 j
/-- within -/
def inR (lo hi : Int) (x : Int32) : Bool := decide (lo ≤ x.toInt) && decide (x.toInt ≤ hi)
theorem inR_iff {lo hi : Int} {x : Int32} : inR lo hi x = true ↔ lo ≤ x.toInt ∧ x.toInt ≤ hi := by
  unfold inR
  rw [Bool.and_eq_true, decide_eq_true_eq, decide_eq_true_eq]
/-- is it one of n -/
def isN (n v : Int32) : Bool := inR 0 (n - 1).toInt v
theorem isN_iff {n v : Int32} : isN n v = true ↔ 0 ≤ v.toInt ∧ v.toInt ≤ (n - 1).toInt := inR_iff
theorem sub1 {n : Int32} (h : 0 ≤ n.toInt) : (n - 1).toInt = n.toInt - 1 := by
  have h2 := n.toInt_lt
  rw [Int32.toInt_sub]
  show Int.bmod (n.toInt - 1) (2 ^ 32) = _
  rw [Int.bmod_eq_of_le (by omega) (by omega)]
theorem add1 {n : Int32} (h : n.toInt < 2147483647) : (n + 1).toInt = n.toInt + 1 := by
  have h2 := n.le_toInt
  rw [Int32.toInt_add]
  show Int.bmod (n.toInt + 1) (2 ^ 32) = _
  rw [Int.bmod_eq_of_le (by omega) (by omega)]
theorem xN_eq {v : Int32} (h : 0 ≤ v.toInt) : ((xN v : Nat) : Int) = v.toInt := by
  show ((v.toInt.toNat : Nat) : Int) = v.toInt
  omega
def cnt (x : Int32) : Nat := xN x
theorem xN_lt {n v : Int32} (h : isN n v) (hn : 0 ≤ n.toInt) : xN v < cnt n := by
  obtain ⟨h4, h5⟩ := isN_iff.mp h
  have h1 := xN_eq h4
  have h2 := xN_eq hn
  have h3 := sub1 hn
  unfold cnt
  omega
/-- whose cells may change: the model's, the component's -/
def mSites : List Nat := [3, 23, 55, 87, 653, 685, 717, 749, 781, 813, 845, 877, 909, 941, 973, 1005, 1037, 1069, 1101, 1133, 1165, 1197, 1229, 1261, 1293, 1325, 1357, 1389, 1421, 1453, 1485, 1517, 1549, 1581, 1613, 16, 1645, 1677, 1709, 1741, 110, 24, 119, 1773, 151, 1805, 1837, 1869, 26, 58, 1901, 1933, 1965, 1997, 2029, 2061, 2093, 2125, 2157, 2189, 2221, 2253, 2285, 2317, 2349, 2381, 2413, 15, 2445, 2477, 2509, 2541, 2573, 25, 47, 183, 2605, 215, 2637, 2669, 2701, 2733, 2765, 48]
def mMine (st : Nat) : Bool := mSites.contains st
def xMine (st : Nat) : Bool := !mSites.contains st && !(st == 28) && !(st == 30)
/-- only the cells of f have changed; at most c cells and d slots have been made -/
def Sm (f : Nat → Bool) (c d : Nat) (u v : zM) : Prop := (∀ n, f (nS n) = false → (∀ k, mI v n k = mI u n k ∧ mR v n k = mR u n k ∧ mL v n k = mL u n k) ∧ mN v n = mN u n) ∧ (∀ st, f st = false → mK v st = mK u st) ∧ mC v ≤ mC u + c ∧ mS v ≤ mS u + d
section SM
variable {f : Nat → Bool} {c d c' d' : Nat} {u v w : zM}
theorem Sm.rf : Sm f c d u u := ⟨fun _ _ => ⟨fun _ => ⟨rfl, rfl, rfl⟩, rfl⟩, fun _ _ => rfl, by omega, by omega⟩
theorem Sm.tr (h : Sm f c d u v) (g : Sm f c' d' v w) : Sm f (c + c') (d + d') u w := by
  obtain ⟨h1, h2, h3, h4⟩ := h
  obtain ⟨g1, g2, g3, g4⟩ := g
  refine ⟨fun n hn => ⟨fun k => ⟨?_, ?_, ?_⟩, ?_⟩, fun st hs => (g2 st hs).trans (h2 st hs), by omega, by omega⟩
  · exact (((g1 n hn).1 k).1).trans (((h1 n hn).1 k).1)
  · exact (((g1 n hn).1 k).2.1).trans (((h1 n hn).1 k).2.1)
  · exact (((g1 n hn).1 k).2.2).trans (((h1 n hn).1 k).2.2)
  · exact (g1 n hn).2.trans (h1 n hn).2
theorem Sm.le (h : Sm f c d u v) (hc : c ≤ c' := by decide) (hd : d ≤ d' := by decide) : Sm f c' d' u v := ⟨h.1, h.2.1, by have := h.2.2.1; omega, by have := h.2.2.2; omega⟩
theorem Sm.tr0 (h : Sm f c d u v) (g : Sm f 0 0 v w) : Sm f c d u w := h.tr g
theorem Sm.sI {n k : Nat} {x : Int32} (h : Sm f c d u v) (hn : f (nS n) = true) : Sm f c d u (sI v n k x) := by
  refine h.tr0 ⟨fun m hm => ⟨fun j => ⟨?_, rfl, rfl⟩, rfl⟩, fun _ _ => rfl, Nat.le_refl _, Nat.le_refl _⟩
  rw [mI_sI, if_neg]
  intro z
  rw [z.1, hn] at hm
  cases hm
theorem Sm.sR {n k : Nat} {x : Option Nat} (h : Sm f c d u v) (hn : f (nS n) = true) : Sm f c d u (sR v n k x) := by
  refine h.tr0 ⟨fun m hm => ⟨fun j => ⟨rfl, ?_, rfl⟩, rfl⟩, fun _ _ => rfl, Nat.le_refl _, Nat.le_refl _⟩
  rw [mR_sR, if_neg]
  intro z
  rw [z.1, hn] at hm
  cases hm
theorem Sm.sL {n k : Nat} {x : Int64} (h : Sm f c d u v) (hn : f (nS n) = true) : Sm f c d u (sL v n k x) := by
  refine h.tr0 ⟨fun m hm => ⟨fun j => ⟨rfl, rfl, ?_⟩, rfl⟩, fun _ _ => rfl, Nat.le_refl _, Nat.le_refl _⟩
  rw [mL_sL, if_neg]
  intro z
  rw [z.1, hn] at hm
  cases hm
theorem Sm.mkc {st len sl : Nat} (h : Sm f c d u v) (hs : st < 8192) (hn : f st = true) : Sm f (c + 1) (d + sl) u (mkc v st len sl) := by
  have key : ∀ m, f (nS m) = false → m ≠ nx v st := fun m hm e => by
    rw [e, show nS (nx v st) = st from nS_nm hs, hn] at hm
    cases hm
  refine h.tr ⟨fun m hm => ⟨fun j => ⟨?_, ?_, ?_⟩, ?_⟩, fun s2 hs2 => ?_, Nat.le_refl _, Nat.le_refl _⟩
  · rw [mI_mkc, if_neg (key m hm)]
  · rw [mR_mkc, if_neg (key m hm)]
  · rw [mL_mkc, if_neg (key m hm)]
  · rw [mN_mkc, if_neg (key m hm)]
  · rw [mK_mkc, if_neg]
    intro e
    rw [e, hn] at hs2
    cases hs2
end SM
theorem Sm.RM {c d : Nat} {s : zS} {u v : zM} (h : Sm xMine c d u v) (hR : RepM s u) (hL : Lay v) : RepM s v := by
  have hx : pmA.all (fun a => !xMine a) = true := by decide +kernel
  refine ⟨hL, fun a k hp => ?_, fun k => ?_⟩
  · have hf : xMine (nS a) = false := by
      unfold pm at hp
      simp only [Bool.or_eq_true, Bool.and_eq_true] at hp
      rcases hp with hp | hp
      · rw [show a = 3 by simpa using hp.1]
        decide
      · have := List.all_eq_true.mp hx (nS a) (by simpa using hp.1.1)
        simpa using this
    rw [((h.1 a hf).1 k).1]
    exact hR.2.1 a k hp
  · rw [((h.1 16 (by decide)).1 k).2.2]
    exact hR.2.2 k
