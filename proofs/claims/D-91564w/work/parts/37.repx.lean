set_option maxRecDepth 100000
/-! ===== the component holds the state s ===== -/
def xRoot : List (Nat × Nat) := [(14, 0), (15, 1), (16, 2), (17, 64), (18, 78), (19, 52), (20, 53), (21, 41), (22, 38), (23, 69), (24, 70), (25, 71), (34, 96)]
def xArr : List (Nat × Nat) := [(237, 1837), (269, 1869), (78, 110), (461, 2701), (493, 2733), (525, 2765)]
def xVil : List (Nat × Nat) := [(1, 749), (4, 781), (5, 813), (6, 845), (7, 877), (8, 909), (9, 941), (10, 973), (12, 1005), (13, 1037), (14, 1069), (15, 1101), (16, 1133), (17, 1165)]
def xHou : List (Nat × Nat) := [(1, 1293), (2, 1325), (4, 1229), (5, 1261), (6, 1357), (7, 1389), (8, 1421), (9, 1453), (10, 1485), (11, 16), (12, 1645), (13, 1709), (14, 1677)]
def xLot : List (Nat × Nat) := [(1, 1997), (3, 2029), (4, 2061), (5, 2093), (6, 2125)]
def xClo : List (Nat × Nat) := [(1, 2349), (3, 2381), (4, 15)]
def lkA (l : List (Nat × Nat)) (j : Nat) : Option Nat := (l.find? (fun q => q.1 == j)).map (fun q => q.2)
def lkB (l : List (Nat × Nat)) (a : Nat) : Option Nat := (l.find? (fun q => q.2 == a)).map (fun q => q.1)
/-- which of the state the component's cell (site, index), slot j holds -/
def xi (st i j : Nat) : Option (Nat × Nat) :=
  if st = 4 then (lkA xVil j).map (fun a => (a, i))
  else if st = 5 then (lkA xHou j).map (fun a => (a, i))
  else if st = 8 then (lkA xLot j).map (fun a => (a, i))
  else if st = 12 then (lkA xClo j).map (fun a => (a, i))
  else if st = 13 then (if j < 4 then some (nm 653 i, j) else none)
  else if i = 0 then
    (if st = 0 then (lkA xRoot j).map (fun k => (3, k))
    else if st = 2 then (if j = 5 then some (3, 86) else none)
    else if st = 301 then (if j < 64 then some (nm 685 (j / 8), j % 8) else none)
    else if st = 429 then (if j < 936 then some (nm 2637 (j / 6), j % 6) else none)
    else (lkA xArr st).map (fun a => (a, j)))
  else none
def xm (a k : Nat) : Nat × Nat × Nat :=
  if a = 3 then (if k = 86 then (2, 0, 5) else (0, 0, (lkB xRoot k).getD 0))
  else if nS a = 653 then (13, nK a, k)
  else if nS a = 685 then (301, 0, 8 * nK a + k)
  else if nS a = 2637 then (429, 0, 6 * nK a + k)
  else match lkB xVil a with
    | some j => (4, k, j)
    | none => match lkB xHou a with
      | some j => (5, k, j)
      | none => match lkB xLot a with
        | some j => (8, k, j)
        | none => match lkB xClo a with
          | some j => (12, k, j)
          | none => ((lkB xArr a).getD 0, 0, k)
theorem lkA_mem {l : List (Nat × Nat)} {j a : Nat} (h : lkA l j = some a) : (j, a) ∈ l := by
  unfold lkA at h
  cases e : l.find? (fun q => q.1 == j) with
  | none => rw [e] at h; cases h
  | some q =>
    rw [e] at h
    have h1 := List.mem_of_find?_eq_some e
    have h2 := List.find?_some e
    cases h
    rw [← show q.1 = j by simpa using h2]
    exact h1
set_option maxHeartbeats 4000000 in
theorem xi_inv {st i j a k : Nat} (h : xi st i j = some (a, k)) : xm a k = (st, i, j) ∧ st < 8192 ∧ xMine st = true := by
  unfold xi at h
  have tV : ∀ q ∈ xVil, (if q.2 = 3 then false else if nS q.2 = 653 then false else if nS q.2 = 685 then false else if nS q.2 = 2637 then false else lkB xVil q.2 == some q.1) = true := by decide
  have tH : ∀ q ∈ xHou, (if q.2 = 3 then false else if nS q.2 = 653 then false else if nS q.2 = 685 then false else if nS q.2 = 2637 then false else lkB xVil q.2 == none && lkB xHou q.2 == some q.1) = true := by decide
  have tL : ∀ q ∈ xLot, (if q.2 = 3 then false else if nS q.2 = 653 then false else if nS q.2 = 685 then false else if nS q.2 = 2637 then false else lkB xVil q.2 == none && lkB xHou q.2 == none && lkB xLot q.2 == some q.1) = true := by decide
  have tC : ∀ q ∈ xClo, (if q.2 = 3 then false else if nS q.2 = 653 then false else if nS q.2 = 685 then false else if nS q.2 = 2637 then false else lkB xVil q.2 == none && lkB xHou q.2 == none && lkB xLot q.2 == none && lkB xClo q.2 == some q.1) = true := by decide
  have tA : ∀ q ∈ xArr, (if q.2 = 3 then false else if nS q.2 = 653 then false else if nS q.2 = 685 then false else if nS q.2 = 2637 then false else lkB xVil q.2 == none && lkB xHou q.2 == none && lkB xLot q.2 == none && lkB xClo q.2 == none && lkB xArr q.2 == some q.1 && (decide (q.1 < 8192) && xMine q.1)) = true := by decide +kernel
  have tR : ∀ q ∈ xRoot, (!(q.2 == 86) && lkB xRoot q.2 == some q.1) = true := by decide
  have fin : ∀ {l : List (Nat × Nat)} {x : Nat}, (lkA l x).map (fun a => (a, i)) = some (a, k) → (x, a) ∈ l ∧ i = k := fun {l x} e => by
    cases e2 : lkA l x with
    | none => rw [e2] at e; cases e
    | some b =>
      rw [e2] at e
      cases e
      exact ⟨lkA_mem e2, rfl⟩
  split at h
  · rename_i e
    subst e
    obtain ⟨m, e⟩ := fin h
    subst e
    have t := tV _ m
    simp only [Bool.if_false_left, Bool.and_eq_true, Bool.not_eq_true', decide_eq_false_iff_not, beq_iff_eq] at t
    refine ⟨?_, by decide, by decide⟩
    unfold xm
    rw [if_neg t.1, if_neg t.2.1, if_neg t.2.2.1, if_neg t.2.2.2.1, t.2.2.2.2]
  split at h
  · rename_i e
    subst e
    obtain ⟨m, e⟩ := fin h
    subst e
    have t := tH _ m
    simp only [Bool.if_false_left, Bool.and_eq_true, Bool.not_eq_true', decide_eq_false_iff_not, beq_iff_eq] at t
    refine ⟨?_, by decide, by decide⟩
    unfold xm
    rw [if_neg t.1, if_neg t.2.1, if_neg t.2.2.1, if_neg t.2.2.2.1, t.2.2.2.2.1]
    show (match lkB xHou a with | some j => (5, i, j) | none => _) = _
    rw [t.2.2.2.2.2]
  split at h
  · rename_i e
    subst e
    obtain ⟨m, e⟩ := fin h
    subst e
    have t := tL _ m
    simp only [Bool.if_false_left, Bool.and_eq_true, Bool.not_eq_true', decide_eq_false_iff_not, beq_iff_eq] at t
    refine ⟨?_, by decide, by decide⟩
    unfold xm
    simp only [if_neg t.1, if_neg t.2.1, if_neg t.2.2.1, if_neg t.2.2.2.1, t.2.2.2.2]
  split at h
  · rename_i e
    subst e
    obtain ⟨m, e⟩ := fin h
    subst e
    have t := tC _ m
    simp only [Bool.if_false_left, Bool.and_eq_true, Bool.not_eq_true', decide_eq_false_iff_not, beq_iff_eq] at t
    refine ⟨?_, by decide, by decide⟩
    unfold xm
    simp only [if_neg t.1, if_neg t.2.1, if_neg t.2.2.1, if_neg t.2.2.2.1, t.2.2.2.2]
  split at h
  · rename_i e
    subst e
    split at h
    · cases h
      refine ⟨?_, by decide, by decide⟩
      unfold xm
      rw [if_neg (by unfold nm; omega), if_pos (nS_nm (by decide)), nK_nm (by decide)]
    · cases h
  split at h
  · rename_i e
    subst e
    split at h
    · rename_i e
      subst e
      cases e2 : lkA xRoot j with
      | none => rw [e2] at h; cases h
      | some b =>
        rw [e2] at h
        cases h
        have t := tR _ (lkA_mem e2)
        simp only [Bool.and_eq_true, Bool.not_eq_true', beq_eq_false_iff_ne, beq_iff_eq] at t
        refine ⟨?_, by decide, by decide⟩
        unfold xm
        rw [if_pos rfl, if_neg t.1, t.2]
        rfl
    split at h
    · rename_i e
      subst e
      split at h
      · rename_i e
        subst e
        cases h
        exact ⟨rfl, by decide, by decide⟩
      · cases h
    split at h
    · rename_i e
      subst e
      split at h
      · cases h
        refine ⟨?_, by decide, by decide⟩
        unfold xm
        rw [if_neg (by unfold nm; omega), nS_nm (by decide), nK_nm (by decide), if_neg (by decide), if_pos rfl, show 8 * (j / 8) + j % 8 = j by omega]
      · cases h
    split at h
    · rename_i e
      subst e
      split at h
      · cases h
        refine ⟨?_, by decide, by decide⟩
        unfold xm
        rw [if_neg (by unfold nm; omega), nS_nm (by decide), nK_nm (by decide), if_neg (by decide), if_neg (by decide), if_pos rfl, show 6 * (j / 6) + j % 6 = j by omega]
      · cases h
    cases e2 : lkA xArr st with
    | none => rw [e2] at h; cases h
    | some b =>
      rw [e2] at h
      cases h
      have t := tA _ (lkA_mem e2)
      simp only [Bool.if_false_left, Bool.and_eq_true, Bool.not_eq_true', decide_eq_false_iff_not, beq_iff_eq, decide_eq_true_eq] at t
      obtain ⟨t1, t2, t3, t4, ⟨⟨⟨⟨t5, t6⟩, t7⟩, t8⟩, t9⟩, t10, t11⟩ := t
      refine ⟨?_, t10, t11⟩
      unfold xm
      simp only [if_neg t1, if_neg t2, if_neg t3, if_neg t4, t5, t6, t7, t8, t9, Option.getD_some]
  · cases h
def XI (s : zS) (u : zM) : Prop := ∀ st i j a k, xi st i j = some (a, k) → mI u (nm st i) j = s a k
theorem XI.w {s : zS} {u : zM} (h : XI s u) {st i j a k : Nat} {x : Int32} (e : xi st i j = some (a, k)) : XI (u2 s a k x) (sI u (nm st i) j x) := by
  intro st' i' j' a' k' e'
  obtain ⟨f1, f2, _⟩ := xi_inv e
  obtain ⟨g1, g2, _⟩ := xi_inv e'
  rw [mI_sI]
  unfold u2
  by_cases c : a' = a ∧ k' = k
  · rw [if_pos c]
    rw [c.1, c.2, f1] at g1
    cases g1
    rw [if_pos ⟨rfl, rfl⟩]
  · rw [if_neg c, if_neg]
    · exact h _ _ _ _ _ e'
    · intro z
      obtain ⟨z1, z2⟩ := (nm_eq g2 f2).mp z.1
      rw [z1, z2, z.2, e] at e'
      cases e'
      exact c ⟨rfl, rfl⟩
theorem XI.f {s : zS} {u v : zM} (h : XI s u) (e : ∀ st i j, st < 8192 → xi st i j ≠ none → mI v (nm st i) j = mI u (nm st i) j) : XI s v := by
  intro st i j a k e'
  rw [e st i j (xi_inv e').2.1 (by rw [e']; simp)]
  exact h _ _ _ _ _ e'
/-- whole numbers that XS looks at, beside those of xi -/
def xs (st j : Nat) : Bool := st == 45 || st == 6 || st == 14 || st == 77 || st == 333 || (st == 4 && j == 0) || (st == 5 && j == 0) || (st == 8 && j == 2)
/-- what XS looks at of the state -/
def kS (a k : Nat) : Bool := (a == 3 && [0, 1, 2, 64, 78, 52, 86].contains k) || [1197, 1965, 2317, 2285, 2413, 2445, 1517, 1549, 1581, 1613].contains a || [717, 1773, 1805, 685].contains (nS a)
/-! the days -/
/-- a way of k roads from a to b of d days -/
def Wk (s : zS) : Nat → Nat → Nat → Nat → Prop
  | 0, a, b, d => a = b ∧ d = 0
  | k + 1, a, b, d => ∃ x e, x < 8 ∧ Wk s k a x e ∧ 0 < (s (nm 685 x) b).toInt ∧ d = e + cnt (s (nm 685 x) b)
def IsD (s : zS) (a b : Nat) (r : Int32) : Prop := (r = -1 ∧ ∀ k d, ¬ Wk s k a b d) ∨ ∃ D : Nat, D ≤ 5000 ∧ r.toInt = D ∧ (∃ k, Wk s k a b D) ∧ ∀ k d, Wk s k a b d → D ≤ d
theorem IsD.uniq {s : zS} {a b : Nat} {r r' : Int32} (h : IsD s a b r) (h' : IsD s a b r') : r = r' := by
  rcases h with ⟨h1, h2⟩ | ⟨D, h0, h1, ⟨k, h2⟩, h3⟩ <;> rcases h' with ⟨g1, g2⟩ | ⟨D', g0, g1, ⟨k', g2⟩, g3⟩
  · rw [h1, g1]
  · exact absurd g2 (h2 _ _)
  · exact absurd h2 (g2 _ _)
  · have := h3 _ _ g2
    have := g3 _ _ h2
    apply Int32.toInt_inj.mp
    omega

noncomputable def dist (s : zS) (a b : Nat) : Int32 := Classical.epsilon (fun r => IsD s a b r)
theorem IsD.eq {s : zS} {a b : Nat} {r : Int32} (h : IsD s a b r) : dist s a b = r := by
  have e : ∃ r, IsD s a b r := ⟨r, h⟩
  exact (Classical.epsilon_spec e).uniq h
theorem Wk.cg {s s' : zS} (h : ∀ a k, s' (nm 685 a) k = s (nm 685 a) k) : ∀ (k a b d : Nat), Wk s' k a b d ↔ Wk s k a b d := by
  intro k
  induction k with
  | zero => intros; exact Iff.rfl
  | succ k ih =>
    intro a b d
    show (∃ x e, x < 8 ∧ Wk s' k a x e ∧ 0 < (s' (nm 685 x) b).toInt ∧ d = e + cnt (s' (nm 685 x) b)) ↔ (∃ x e, x < 8 ∧ Wk s k a x e ∧ 0 < (s (nm 685 x) b).toInt ∧ d = e + cnt (s (nm 685 x) b))
    simp only [h, ih]
theorem IsD.cg {s s' : zS} (h : ∀ a k, s' (nm 685 a) k = s (nm 685 a) k) (a b : Nat) (r : Int32) : IsD s' a b r ↔ IsD s a b r := by
  unfold IsD
  simp only [Wk.cg h]
theorem dist.cg {s s' : zS} (h : ∀ a k, s' (nm 685 a) k = s (nm 685 a) k) (a b : Nat) : dist s' a b = dist s a b := by
  unfold dist
  simp only [IsD.cg h]
/-! what the references tell -/
def XV (s : zS) (u : zM) : Prop := (mK u 4 = cnt (s 3 1) ∧ mK u 13 = cnt (s 3 1) ∧ mK u 45 = cnt (s 3 1)) ∧ (∀ v, cnt (s 3 1) ≤ v → mR u 17 v = none) ∧ ∀ v, v < cnt (s 3 1) → mR u 17 v = some (nm 4 v) ∧ mI u (nm 4 v) 0 = Int32.ofNat v ∧ mR u (nm 4 v) 2 = some (nm 13 v) ∧ mN u (nm 13 v) = 4 ∧ mR u (nm 4 v) 3 = some (nm 45 v) ∧ mN u (nm 45 v) = 157 ∧ ∀ w, w ≤ cnt (s 3 0) → mI u (nm 45 v) w = s (nm 717 v) w
def xLoo : List (Nat × Nat) := [(0, 1517), (1, 1549), (2, 1581), (3, 1613)]
/-- the loom of a house: none, or one of its own -/
def XLoo (s : zS) (u : zM) (h : Nat) : Prop := (s 1581 h = 0 ∧ mR u (nm 5 h) 15 = none) ∨ (¬ s 1581 h = 0 ∧ ∃ i, i < mK u 6 ∧ mR u (nm 5 h) 15 = some (nm 6 i) ∧ mI u (nm 6 i) 0 = s 1517 h ∧ mI u (nm 6 i) 1 = s 1549 h ∧ mI u (nm 6 i) 2 = s 1581 h ∧ mI u (nm 6 i) 3 = s 1613 h)
def XH (s : zS) (u : zM) : Prop := mK u 5 = cnt (s 3 2) ∧ (∀ h, h < cnt (s 3 2) → mR u 50 h = some (nm 5 h) ∧ mI u (nm 5 h) 0 = Int32.ofNat h ∧ mR u (nm 5 h) 3 = some (nm 4 (xN (s 1197 h))) ∧ XLoo s u h) ∧ ∀ h h' n, h < cnt (s 3 2) → h' < cnt (s 3 2) → mR u (nm 5 h) 15 = some n → mR u (nm 5 h') 15 = some n → h = h'
def XL (s : zS) (u : zM) : Prop := mK u 8 = cnt (s 3 64) ∧ ∀ l, l < cnt (s 3 64) → mR u 51 l = some (nm 8 l) ∧ mI u (nm 8 l) 2 = Int32.ofNat l ∧ mR u (nm 8 l) 0 = some (nm 5 (xN (s 1965 l)))
def XC (s : zS) (u : zM) : Prop := mK u 12 = cnt (s 3 78) ∧ ∀ c, c < cnt (s 3 78) → mR u 20 c = some (nm 12 c) ∧ mR u (nm 12 c) 0 = some (nm 5 (xN (s 2317 c))) ∧ mR u (nm 12 c) 2 = some (nm 8 (xN (s 2285 c))) ∧ mR u (nm 12 c) 5 = if s 2413 c = -1 then none else some (nm 4 (xN (s 2413 c)))
/-- a step of the component's and of the model's code -/
def stepRel (wh wi op v : Int32) : Prop := (wh = 0 ∧ op = 110 ∧ wi = v) ∨ (wh = 1 ∧ op = 118 ∧ wi = v) ∨ (wh = 2 ∧ op = 33) ∨ (wh = op ∧ op ∈ [43, 45, 42, 47, 60, 62, 61, 38, 124])
def XSte (s : zS) (u : zM) (t c n : Nat) : Prop := ∃ i j j', n = nm 9 i ∧ i < mK u 9 ∧ j < mK u 14 ∧ j' < mK u 77 ∧ mR u n 0 = some (nm 14 j) ∧ mR u n 1 = some (nm 77 j') ∧ mN u (nm 14 j) = cnt (s (nm 1805 t) c) ∧ mN u (nm 77 j') = cnt (s (nm 1805 t) c) ∧ ∀ k, k < cnt (s (nm 1805 t) c) → stepRel (mI u (nm 14 j) k) (mI u (nm 77 j') k) (s (nm 1773 (5 * t + c)) (2 * k)) (s (nm 1773 (5 * t + c)) (2 * k + 1))
def XT (s : zS) (u : zM) : Prop := ∀ t, t < cnt (s 3 52) → ∃ i j, i < mK u 10 ∧ j < mK u 22 ∧ mR u 21 t = some (nm 10 i) ∧ mR u (nm 10 i) 0 = some (nm 22 j) ∧ mN u (nm 22 j) = 5 ∧ ∀ c, c < 5 → (s (nm 1805 t) c = 0 ∧ mR u (nm 22 j) c = none) ∨ (¬ s (nm 1805 t) c = 0 ∧ ∃ n, mR u (nm 22 j) c = some n ∧ XSte s u t c n)
def XA (s : zS) (u : zM) : Prop := ∀ k, k < cnt (s 3 86) → mR u 19 k = some (nm 8 (xN (s 2445 k)))
def XF (s : zS) (u : zM) : Prop := ∀ a b, a < cnt (s 3 1) → b < cnt (s 3 1) → IsD s a b (mI u 333 (8 * a + b))
def XS (s : zS) (u : zM) : Prop := XV s u ∧ XH s u ∧ XL s u ∧ XC s u ∧ XT s u ∧ XA s u ∧ XF s u
theorem XS.cg {s s' : zS} {u v : zM} (h : XS s u) (eR : mR v = mR u) (eN : mN v = mN u) (eK : mK v = mK u) (hi : ∀ st i j, st < 8192 → xs st j = true → mI v (nm st i) j = mI u (nm st i) j) (hk : ∀ a k, kS a k = true → s' a k = s a k) : XS s' v := by
  have k1 : s' 3 0 = s 3 0 := hk _ _ rfl
  have k2 : s' 3 1 = s 3 1 := hk _ _ rfl
  have k3 : s' 3 2 = s 3 2 := hk _ _ rfl
  have k4 : s' 3 64 = s 3 64 := hk _ _ rfl
  have k5 : s' 3 78 = s 3 78 := hk _ _ rfl
  have k6 : s' 3 52 = s 3 52 := hk _ _ rfl
  have k7 : s' 3 86 = s 3 86 := hk _ _ rfl
  have a1 : ∀ k, s' 1197 k = s 1197 k := fun k => hk _ _ rfl
  have a2 : ∀ k, s' 1965 k = s 1965 k := fun k => hk _ _ rfl
  have a3 : ∀ k, s' 2317 k = s 2317 k := fun k => hk _ _ rfl
  have a4 : ∀ k, s' 2285 k = s 2285 k := fun k => hk _ _ rfl
  have a5 : ∀ k, s' 2413 k = s 2413 k := fun k => hk _ _ rfl
  have a6 : ∀ k, s' 2445 k = s 2445 k := fun k => hk _ _ rfl
  have a7 : ∀ k, s' 1517 k = s 1517 k := fun k => hk _ _ rfl
  have a8 : ∀ k, s' 1549 k = s 1549 k := fun k => hk _ _ rfl
  have a9 : ∀ k, s' 1581 k = s 1581 k := fun k => hk _ _ rfl
  have a10 : ∀ k, s' 1613 k = s 1613 k := fun k => hk _ _ rfl
  have kn : ∀ st i k, st < 8192 → [717, 1773, 1805, 685].contains st = true → s' (nm st i) k = s (nm st i) k := fun st i k h1 h2 => hk _ _ (by
    unfold kS
    rw [nS_nm h1, h2]
    simp)
  have n1 : ∀ i k, s' (nm 717 i) k = s (nm 717 i) k := fun i k => kn 717 i k (by decide) (by decide)
  have n2 : ∀ i k, s' (nm 1773 i) k = s (nm 1773 i) k := fun i k => kn 1773 i k (by decide) (by decide)
  have n3 : ∀ i k, s' (nm 1805 i) k = s (nm 1805 i) k := fun i k => kn 1805 i k (by decide) (by decide)
  have n4 : ∀ i k, s' (nm 685 i) k = s (nm 685 i) k := fun i k => kn 685 i k (by decide) (by decide)
  have i1 : ∀ i j, mI v (nm 45 i) j = mI u (nm 45 i) j := fun i j => hi 45 i j (by decide) rfl
  have i2 : ∀ i j, mI v (nm 6 i) j = mI u (nm 6 i) j := fun i j => hi 6 i j (by decide) rfl
  have i3 : ∀ i j, mI v (nm 14 i) j = mI u (nm 14 i) j := fun i j => hi 14 i j (by decide) rfl
  have i4 : ∀ i j, mI v (nm 77 i) j = mI u (nm 77 i) j := fun i j => hi 77 i j (by decide) rfl
  have i5 : ∀ j, mI v 333 j = mI u 333 j := fun j => by
    have := hi 333 0 j (by decide) rfl
    rw [nm0] at this
    exact this
  have i6 : ∀ i, mI v (nm 4 i) 0 = mI u (nm 4 i) 0 := fun i => hi 4 i 0 (by decide) rfl
  have i7 : ∀ i, mI v (nm 5 i) 0 = mI u (nm 5 i) 0 := fun i => hi 5 i 0 (by decide) rfl
  have i8 : ∀ i, mI v (nm 8 i) 2 = mI u (nm 8 i) 2 := fun i => hi 8 i 2 (by decide) rfl
  unfold XS XV XH XL XC XT XA XF XLoo XSte at h ⊢
  simp only [eR, eN, eK, k1, k2, k3, k4, k5, k6, k7, a1, a2, a3, a4, a5, a6, a7, a8, a9, a10, n1, n2, n3, i1, i2, i3, i4, i5, i6, i7, i8, IsD.cg n4]
  exact h
def RepX (s : zS) (u : zM) : Prop := Lay u ∧ XI s u ∧ XS s u
section RX
variable {s : zS} {u : zM}
theorem xi28 {i j a k : Nat} : xi 28 i j ≠ some (a, k) := fun h => by
  have := (xi_inv h).2.2
  revert this
  decide
/-- a whole number of the component's is set -/
theorem RepX.w (h : RepX s u) {st i j a k : Nat} {x : Int32} (e : xi st i j = some (a, k)) (e2 : kS a k = false) (e3 : xs st j = false) : RepX (u2 s a k x) (sI u (nm st i) j x) := by
  have hs := (xi_inv e).2.1
  refine ⟨h.1.sI (fun z => ?_), h.2.1.w e, h.2.2.cg rfl rfl rfl (fun st' i' j' h1 h2 => ?_) (fun b m hb => ?_)⟩
  · rw [nS_nm hs] at z
    subst z
    exact xi28 e
  · rw [mI_sI, if_neg]
    intro z
    obtain ⟨z1, z2⟩ := (nm_eq h1 hs).mp z.1
    rw [z1, z.2, e3] at h2
    cases h2
  · unfold u2
    rw [if_neg]
    intro z
    rw [z.1, z.2, e2] at hb
    cases hb
/-- what doesn't last -/
theorem RepX.f (h : RepX s u) {st i j : Nat} {x : Int32} (hs : st < 8192) (h28 : st ≠ 28) (e : xi st i j = none) (e3 : xs st j = false) : RepX s (sI u (nm st i) j x) := by
  refine ⟨h.1.sI (fun z => ?_), h.2.1.f (fun st' i' j' h1 h2 => ?_), h.2.2.cg rfl rfl rfl (fun st' i' j' h1 h2 => ?_) (fun b m hb => rfl)⟩
  · rw [nS_nm hs] at z
    exact h28 z
  · rw [mI_sI, if_neg]
    intro z
    obtain ⟨z1, z2⟩ := (nm_eq h1 hs).mp z.1
    rw [z1, z2, z.2, e] at h2
    exact h2 rfl
  · rw [mI_sI, if_neg]
    intro z
    obtain ⟨z1, z2⟩ := (nm_eq h1 hs).mp z.1
    rw [z1, z.2, e3] at h2
    cases h2
end RX
/-- the model's cells are not the component's -/
theorem Sm.RX {c d : Nat} {s : zS} {u v : zM} (h : Sm mMine c d u v) (hR : RepX s u) (hL : Lay v) : RepX s v := by
  have hn : ∀ st i, st < 8192 → mMine st = false → (∀ k, mI v (nm st i) k = mI u (nm st i) k ∧ mR v (nm st i) k = mR u (nm st i) k ∧ mL v (nm st i) k = mL u (nm st i) k) ∧ mN v (nm st i) = mN u (nm st i) := fun st i h1 h2 => h.1 (nm st i) (by rw [nS_nm h1]; exact h2)
  have hl : ∀ n, n < 8192 → mMine n = false → (∀ k, mI v n k = mI u n k ∧ mR v n k = mR u n k ∧ mL v n k = mL u n k) ∧ mN v n = mN u n := fun n h1 h2 => h.1 n (by rw [show nS n = n from Nat.mod_eq_of_lt h1]; exact h2)
  refine ⟨hL, hR.2.1.f (fun st i j h1 h2 => ?_), ?_⟩
  · cases e : xi st i j with
    | none => exact absurd e h2
    | some q =>
      have := (xi_inv e).2.2
      refine ((hn st i h1 ?_).1 j).1
      unfold xMine at this
      simp only [Bool.and_eq_true, Bool.not_eq_true'] at this
      exact this.1.1
  · have hx := hR.2.2
    unfold XS XV XH XL XC XT XA XF XLoo XSte at hx ⊢
    have r4 : ∀ i k, mR v (nm 4 i) k = mR u (nm 4 i) k := fun i k => ((hn 4 i (by decide) (by decide)).1 k).2.1
    have r5 : ∀ i k, mR v (nm 5 i) k = mR u (nm 5 i) k := fun i k => ((hn 5 i (by decide) (by decide)).1 k).2.1
    have r8 : ∀ i k, mR v (nm 8 i) k = mR u (nm 8 i) k := fun i k => ((hn 8 i (by decide) (by decide)).1 k).2.1
    have r12 : ∀ i k, mR v (nm 12 i) k = mR u (nm 12 i) k := fun i k => ((hn 12 i (by decide) (by decide)).1 k).2.1
    have r9 : ∀ i k, mR v (nm 9 i) k = mR u (nm 9 i) k := fun i k => ((hn 9 i (by decide) (by decide)).1 k).2.1
    have r10 : ∀ i k, mR v (nm 10 i) k = mR u (nm 10 i) k := fun i k => ((hn 10 i (by decide) (by decide)).1 k).2.1
    have r22 : ∀ i k, mR v (nm 22 i) k = mR u (nm 22 i) k := fun i k => ((hn 22 i (by decide) (by decide)).1 k).2.1
    have r17 : ∀ k, mR v 17 k = mR u 17 k := fun k => ((hl 17 (by decide) (by decide)).1 k).2.1
    have r50 : ∀ k, mR v 50 k = mR u 50 k := fun k => ((hl 50 (by decide) (by decide)).1 k).2.1
    have r51 : ∀ k, mR v 51 k = mR u 51 k := fun k => ((hl 51 (by decide) (by decide)).1 k).2.1
    have r20 : ∀ k, mR v 20 k = mR u 20 k := fun k => ((hl 20 (by decide) (by decide)).1 k).2.1
    have r21 : ∀ k, mR v 21 k = mR u 21 k := fun k => ((hl 21 (by decide) (by decide)).1 k).2.1
    have r19 : ∀ k, mR v 19 k = mR u 19 k := fun k => ((hl 19 (by decide) (by decide)).1 k).2.1
    have n13 : ∀ i, mN v (nm 13 i) = mN u (nm 13 i) := fun i => (hn 13 i (by decide) (by decide)).2
    have n45 : ∀ i, mN v (nm 45 i) = mN u (nm 45 i) := fun i => (hn 45 i (by decide) (by decide)).2
    have n22 : ∀ i, mN v (nm 22 i) = mN u (nm 22 i) := fun i => (hn 22 i (by decide) (by decide)).2
    have n14 : ∀ i, mN v (nm 14 i) = mN u (nm 14 i) := fun i => (hn 14 i (by decide) (by decide)).2
    have n77 : ∀ i, mN v (nm 77 i) = mN u (nm 77 i) := fun i => (hn 77 i (by decide) (by decide)).2
    have i4 : ∀ i k, mI v (nm 4 i) k = mI u (nm 4 i) k := fun i k => ((hn 4 i (by decide) (by decide)).1 k).1
    have i5 : ∀ i k, mI v (nm 5 i) k = mI u (nm 5 i) k := fun i k => ((hn 5 i (by decide) (by decide)).1 k).1
    have i6 : ∀ i k, mI v (nm 6 i) k = mI u (nm 6 i) k := fun i k => ((hn 6 i (by decide) (by decide)).1 k).1
    have i8 : ∀ i k, mI v (nm 8 i) k = mI u (nm 8 i) k := fun i k => ((hn 8 i (by decide) (by decide)).1 k).1
    have i45 : ∀ i k, mI v (nm 45 i) k = mI u (nm 45 i) k := fun i k => ((hn 45 i (by decide) (by decide)).1 k).1
    have i14 : ∀ i k, mI v (nm 14 i) k = mI u (nm 14 i) k := fun i k => ((hn 14 i (by decide) (by decide)).1 k).1
    have i77 : ∀ i k, mI v (nm 77 i) k = mI u (nm 77 i) k := fun i k => ((hn 77 i (by decide) (by decide)).1 k).1
    have i333 : ∀ k, mI v 333 k = mI u 333 k := fun k => ((hl 333 (by decide) (by decide)).1 k).1
    have k4 : mK v 4 = mK u 4 := h.2.1 4 (by decide)
    have k13 : mK v 13 = mK u 13 := h.2.1 13 (by decide)
    have k45 : mK v 45 = mK u 45 := h.2.1 45 (by decide)
    have k5 : mK v 5 = mK u 5 := h.2.1 5 (by decide)
    have k6 : mK v 6 = mK u 6 := h.2.1 6 (by decide)
    have k8 : mK v 8 = mK u 8 := h.2.1 8 (by decide)
    have k12 : mK v 12 = mK u 12 := h.2.1 12 (by decide)
    have k9 : mK v 9 = mK u 9 := h.2.1 9 (by decide)
    have k14 : mK v 14 = mK u 14 := h.2.1 14 (by decide)
    have k77 : mK v 77 = mK u 77 := h.2.1 77 (by decide)
    have k10 : mK v 10 = mK u 10 := h.2.1 10 (by decide)
    have k22 : mK v 22 = mK u 22 := h.2.1 22 (by decide)
    simp only [r4, r5, r8, r12, r10, r22, r17, r50, r51, r20, r21, r19, n13, n45, n22, n14, n77, i4, i5, i6, i8, i45, i14, i77, i333, k4, k13, k45, k5, k6, k8, k12, k9, k14, k77, k10, k22]
    refine ⟨hx.1, hx.2.1, hx.2.2.1, hx.2.2.2.1, fun t ht => ?_, hx.2.2.2.2.2⟩
    obtain ⟨i, j, z1, z2, z3, z4, z5, z6⟩ := hx.2.2.2.2.1 t ht
    refine ⟨i, j, z1, z2, z3, z4, z5, fun c hc => ?_⟩
    rcases z6 c hc with y | ⟨y1, n, y2, a, b, b', y3, y4⟩
    · exact Or.inl y
    · subst y3
      refine Or.inr ⟨y1, nm 9 a, y2, a, b, b', rfl, ?_⟩
      simp only [r9]
      exact y4
