set_option maxRecDepth 100000
/-! ===== the law's rounds: what is left is that each of the 43 calls agrees ===== -/
def Keep (u v : zM) : Prop := mN v (nm 30 0) = mN u (nm 30 0) ∧ (∀ j, mI v (nm 30 0) j = mI u (nm 30 0) j) ∧ mC v ≤ mC u + 600 ∧ mS v ≤ mS u + 5000
/-- a call on both sides: the same answer, and all is well after it -/
def Agr (G : zM → Prop) (f g : zM → Option (Int32 × zM)) : Prop := ∀ u, G u → ∃ r u1 u2, f u = some (r, u1) ∧ g u1 = some (r, u2) ∧ G u2 ∧ Keep u u1 ∧ Keep u1 u2
def Inv (G : zM → Prop) (L : Nat) (xs : Nat → Int32) (c : Nat) (u : zM) : Prop := G u ∧ mN u (nm 30 0) = L ∧ (∀ j, mI u (nm 30 0) j = xs j) ∧ mC u ≤ 400 + 1200 * c ∧ mS u ≤ 50000 + 10000 * c
theorem rng_in : ∀ c, c < 65 → ¬ (Int32.ofNat (6 * c) < 0) ∧ (Int32.ofNat (6 * c)).toNatClampNeg = 6 * c ∧ ¬ (Int32.ofNat (6 * c) + 1 < 0) ∧ (Int32.ofNat (6 * c) + 1).toNatClampNeg = 6 * c + 1 ∧ ¬ (Int32.ofNat (6 * c) + 2 < 0) ∧ (Int32.ofNat (6 * c) + 2).toNatClampNeg = 6 * c + 2 ∧ ¬ (Int32.ofNat (6 * c) + 3 < 0) ∧ (Int32.ofNat (6 * c) + 3).toNatClampNeg = 6 * c + 3 ∧ ¬ (Int32.ofNat (6 * c) + 4 < 0) ∧ (Int32.ofNat (6 * c) + 4).toNatClampNeg = 6 * c + 4 ∧ ¬ (Int32.ofNat (6 * c) + 5 < 0) ∧ (Int32.ofNat (6 * c) + 5).toNatClampNeg = 6 * c + 5 ∧ Int32.ofNat (6 * c) + 6 = Int32.ofNat (6 * (c + 1)) := by decide +kernel
theorem rng_end : ∀ c, c < 65 → ∀ L, L < 385 → (Int32.ofNat L - 6 < Int32.ofNat (6 * c) ↔ L < 6 * c + 6) := by decide +kernel
section LOOP
variable {G : zM → Prop} {L : Nat} {xs : Nat → Int32} {P : Int32 → zM → Prop} {c : Nat} {u : zM}
theorem iIf {β : Type} {Q : Prop} [Decidable Q] {a b : Option (β × zM)} {P : β → zM → Prop} (h1 : Q → Ini a P) (h2 : ¬ Q → Ini b P) : Ini (if Q then a else b) P := by
  split
  · exact h1 ‹_›
  · exact h2 ‹_›
theorem iIx {β : Type} {i : Int32} {n : Nat} {o : Option (β × zM)} {P : β → zM → Prop} (h1 : ¬ i < 0) (h2 : i.toNatClampNeg < n) (g : Ini o P) : Ini (ix i n o) P := by
  unfold ix
  rw [if_neg (fun z => z.elim h1 (fun z => absurd h2 (Nat.not_lt.mpr z)))]
  exact g
theorem opc0 {f g : zM → Option (Int32 × zM)} {j : zM → Option (Int32 × zM)} {e : Int32 → Int32 → zM → Option (Int32 × zM)} (hA : Agr G f g) (h : Inv G L xs c u) (hj : ∀ u2, Inv G L xs (c + 1) u2 → Ini (j u2) P) : Ini (bd (f u) fun v u1 => bd (g u1) fun v' u2 => if v = v' then j u2 else e v v' u2) P := by
  obtain ⟨h1, h2, h3, h4, h5⟩ := h
  obtain ⟨r, u1, u2, e1, e2, g1, ⟨k1, k2, k3, k4⟩, ⟨l1, l2, l3, l4⟩⟩ := hA u h1
  have hI : Inv G L xs (c + 1) u2 := ⟨g1, (l1.trans k1).trans h2, fun j => ((l2 j).trans (k2 j)).trans (h3 j), by omega, by omega⟩
  obtain ⟨b, u3, e3, p⟩ := hj u2 hI
  refine ⟨b, u3, ?_, p⟩
  unfold bd
  rw [e1]
  show bd (g u1) _ = _
  unfold bd
  rw [e2]
  show (if r = r then j u2 else e r r u2) = _
  rw [if_pos rfl]
  exact e3
/-- between the two calls the script is as it was -/
theorem opcm {f g : zM → Option (Int32 × zM)} {g' : Int32 → zM → Option (Int32 × zM)} (hA : Agr G f g) (h : Inv G L xs c u) (hg : ∀ v u1 u2, mN u1 (nm 30 0) = L → (∀ j, mI u1 (nm 30 0) j = xs j) → Inv G L xs (c + 1) u2 → g u1 = some (v, u2) → Ini (g' v u1) P) : Ini (bd (f u) g') P := by
  obtain ⟨h1, h2, h3, h4, h5⟩ := h
  obtain ⟨r, u1, u2, e1, e2, g1, ⟨k1, k2, k3, k4⟩, ⟨l1, l2, l3, l4⟩⟩ := hA u h1
  have hI : Inv G L xs (c + 1) u2 := ⟨g1, (l1.trans k1).trans h2, fun j => ((l2 j).trans (k2 j)).trans (h3 j), by omega, by omega⟩
  obtain ⟨b, u3, e3, p⟩ := hg r u1 u2 (k1.trans h2) (fun j => (k2 j).trans (h3 j)) hI e2
  exact ⟨b, u3, by unfold bd; rw [e1]; exact e3, p⟩
theorem opce {o : Option (Int32 × zM)} {j : zM → Option (Int32 × zM)} {e : Int32 → zM → Option (Int32 × zM)} {v : Int32} {u2 : zM} (ho : o = some (v, u2)) (hj : Ini (j u2) P) : Ini (bd o fun v' u2 => if v = v' then j u2 else e v' u2) P := by
  obtain ⟨b, u3, e3, p⟩ := hj
  refine ⟨b, u3, ?_, p⟩
  rw [ho]
  show (if v = v then j u2 else e v u2) = _
  rw [if_pos rfl]
  exact e3
end LOOP
def Ops (G : zM → Prop) : Prop :=
  (∀ a b c : Int32, Agr G (f_X0_village 0 a b c) (f_X3_village 3 a b c)) ∧
  (∀ a b c : Int32, Agr G (f_X0_road 0 a b c) (f_X3_road 3 a b c)) ∧
  (∀ a b : Int32, Agr G (f_X0_far 0 a b) (f_X3_far 3 a b)) ∧
  (∀ a b : Int32, Agr G (f_X0_house 0 a b) (f_X3_house 3 a b)) ∧
  (∀ a b c : Int32, Agr G (f_X0_loom 0 a b c) (f_X3_loom 3 a b c)) ∧
  (∀ a b : Int32, Agr G (f_X0_aim 0 a b) (f_X3_aim 3 a b)) ∧
  (∀ a b : Int32, Agr G (f_X0_coins 0 a b) (f_X3_coins 3 a b)) ∧
  (∀ a b : Int32, Agr G (f_X0_cotton 0 a b) (f_X3_cotton 3 a b)) ∧
  (∀ a : Int32, Agr G (f_X0_go 0 a) (f_X3_go 3 a)) ∧
  (∀ a b : Int32, Agr G (f_X0_lot 0 a b) (f_X3_lot 3 a b)) ∧
  (∀ a b c d e : Int32, Agr G (f_X0_feed 0 a b c d e) (f_X3_feed 3 a b c d e)) ∧
  (∀ a : Int32, Agr G (f_X0_end 0 a) (f_X3_end 3 a)) ∧
  (Agr G (f_X0_fault 0) (f_X3_fault 3)) ∧
  (Agr G (f_X0_sheet 0) (f_X3_sheet 3)) ∧
  (∀ a b : Int32, Agr G (f_X0_force 0 a b) (f_X3_force 3 a b)) ∧
  (∀ a b : Int32, Agr G (f_X0_why 0 a b) (f_X3_why 3 a b)) ∧
  (∀ a b c : Int32, Agr G (f_X0_pay 0 a b c) (f_X3_pay 3 a b c)) ∧
  (∀ a b : Int32, Agr G (f_X0_due 0 a b) (f_X3_due 3 a b)) ∧
  (∀ a b c : Int32, Agr G (f_X0_bar 0 a b c) (f_X3_bar 3 a b c)) ∧
  (∀ a b c : Int32, Agr G (f_X0_weave 0 a b c) (f_X3_weave 3 a b c)) ∧
  (∀ a b : Int32, Agr G (f_X0_cloth 0 a b) (f_X3_cloth 3 a b)) ∧
  (∀ a : Int32, Agr G (f_X0_ask 0 a) (f_X3_ask 3 a)) ∧
  (Agr G (f_X0_clear 0) (f_X3_clear 3)) ∧
  (∀ a b : Int32, Agr G (f_X0_hands 0 a b) (f_X3_hands 3 a b)) ∧
  (∀ a b : Int32, Agr G (f_X0_bring 0 a b) (f_X3_bring 3 a b)) ∧
  (∀ a b : Int32, Agr G (f_X0_mill 0 a b) (f_X3_mill 3 a b)) ∧
  (∀ a b : Int32, Agr G (f_X0_price 0 a b) (f_X3_price 3 a b)) ∧
  (∀ a b : Int32, Agr G (f_X0_talk 0 a b) (f_X3_talk 3 a b)) ∧
  (∀ a b : Int32, Agr G (f_X0_heard 0 a b) (f_X3_heard 3 a b)) ∧
  (∀ a : Int32, Agr G (f_X0_likes 0 a) (f_X3_likes 3 a)) ∧
  (∀ a b : Int32, Agr G (f_X0_sold 0 a b) (f_X3_sold 3 a b)) ∧
  (∀ a b : Int32, Agr G (f_X0_wrong 0 a b) (f_X3_wrong 3 a b)) ∧
  (Agr G (f_X0_look 0) (f_X3_look 3)) ∧
  (∀ a b c : Int32, Agr G (f_X0_gift 0 a b c) (f_X3_gift 3 a b c)) ∧
  (Agr G (f_X0_forget 0) (f_X3_forget 3)) ∧
  (∀ a b : Int32, Agr G (f_X0_best 0 a b) (f_X3_best 3 a b)) ∧
  (∀ a : Int32, Agr G (f_X0_hungry 0 a) (f_X3_hungry 3 a)) ∧
  (∀ a b : Int32, Agr G (f_X0_keeps 0 a b) (f_X3_keeps 3 a b)) ∧
  (∀ a b : Int32, Agr G (f_X0_told 0 a b) (f_X3_told 3 a b)) ∧
  (∀ a b c : Int32, Agr G (f_X0_check 0 a b c) (f_X3_check 3 a b c)) ∧
  (∀ a b : Int32, Agr G (f_X0_is 0 a b) (f_X3_is 3 a b)) ∧
  (∀ a b : Int32, Agr G (f_X0_has 0 a b) (f_X3_has 3 a b)) ∧
  (∀ a : Int32, Agr G (f_X0_count 0 a) (f_X3_count 3 a))
set_option maxHeartbeats 4000000 in
theorem law_rounds {G : zM → Prop} {L : Nat} {xs : Nat → Int32} {P : Int32 → zM → Prop} (hO : Ops G) (hL : L ≤ 384) (hP : ∀ c u, c ≤ 64 → Inv G L xs c u → P 1 u) : ∀ (n c : Nat) (u : zM), c ≤ 64 → 65 < n + c → Inv G L xs c u → Ini (f_L_law_L18 (nm 30 0) 0 3 n (Int32.ofNat (6 * c)) u) P := by
  obtain ⟨o_village, o_road, o_far, o_house, o_loom, o_aim, o_coins, o_cotton, o_go, o_lot, o_feed, o_end, o_fault, o_sheet, o_force, o_why, o_pay, o_due, o_bar, o_weave, o_cloth, o_ask, o_clear, o_hands, o_bring, o_mill, o_price, o_talk, o_heard, o_likes, o_sold, o_wrong, o_look, o_gift, o_forget, o_best, o_hungry, o_keeps, o_told, o_check, o_is, o_has, o_count⟩ := hO
  intro n
  induction n with
  | zero => intro c u h1 h2; omega
  | succ n ih =>
    intro c u hc hn h
    obtain ⟨r0, r0', r1, r1', r2, r2', r3, r3', r4, r4', r5, r5', r6⟩ := rng_in c (by omega)
    have hN := h.2.1
    have hX := h.2.2.1
    unfold f_L_law_L18
    refine iIf (fun _ => ?_) (fun hlt => ?_)
    · unfold gb
      rw [if_pos (Or.inr rfl)]
      exact ⟨1, u, rfl, hP c u hc h⟩
    have hle : 6 * c + 6 ≤ L := by
      rw [hN] at hlt
      exact Nat.not_lt.mp fun z => hlt ((rng_end c (by omega) L (by omega)).mpr z)
    have hj : ∀ u2, Inv G L xs (c + 1) u2 → Ini (f_L_law_L18 (nm 30 0) 0 3 n (Int32.ofNat (6 * c) + 6) u2) P := fun u2 h2 => by
      rw [r6]
      exact ih (c + 1) u2 (by omega) (by omega) h2
    refine iIx r0 (by rw [r0', hN]; omega) ?_
    unfold lt
    generalize Int32.ofNat (6 * c) = x3 at *
    refine iIf (fun _ => ?_) (fun _ => ?_)
    · refine iIx r1 (by rw [r1', hN]; omega) ?_
      refine iIx r2 (by rw [r2', hN]; omega) ?_
      refine iIx r3 (by rw [r3', hN]; omega) ?_
      refine opcm (g := f_X3_village 3 (mI u (nm 30 0) (xN (x3 + 1))) (mI u (nm 30 0) (xN (x3 + 2))) (mI u (nm 30 0) (xN (x3 + 3)))) (o_village _ _ _) h fun v u1 u2 m1 m2 hI e2 => ?_
      refine iIx r1 (by rw [r1', m1]; omega) ?_
      refine iIx r2 (by rw [r2', m1]; omega) ?_
      refine iIx r3 (by rw [r3', m1]; omega) ?_
      refine opce (u2 := u2) ?_ (hj u2 hI)
      simp only [m2, hX] at e2 ⊢
      exact e2
    refine iIf (fun _ => ?_) (fun _ => ?_)
    · refine iIx r1 (by rw [r1', hN]; omega) ?_
      refine iIx r2 (by rw [r2', hN]; omega) ?_
      refine iIx r3 (by rw [r3', hN]; omega) ?_
      refine opcm (g := f_X3_road 3 (mI u (nm 30 0) (xN (x3 + 1))) (mI u (nm 30 0) (xN (x3 + 2))) (mI u (nm 30 0) (xN (x3 + 3)))) (o_road _ _ _) h fun v u1 u2 m1 m2 hI e2 => ?_
      refine iIx r1 (by rw [r1', m1]; omega) ?_
      refine iIx r2 (by rw [r2', m1]; omega) ?_
      refine iIx r3 (by rw [r3', m1]; omega) ?_
      refine opce (u2 := u2) ?_ (hj u2 hI)
      simp only [m2, hX] at e2 ⊢
      exact e2
    refine iIf (fun _ => ?_) (fun _ => ?_)
    · refine iIx r1 (by rw [r1', hN]; omega) ?_
      refine iIx r2 (by rw [r2', hN]; omega) ?_
      refine opcm (g := f_X3_far 3 (mI u (nm 30 0) (xN (x3 + 1))) (mI u (nm 30 0) (xN (x3 + 2)))) (o_far _ _) h fun v u1 u2 m1 m2 hI e2 => ?_
      refine iIx r1 (by rw [r1', m1]; omega) ?_
      refine iIx r2 (by rw [r2', m1]; omega) ?_
      refine opce (u2 := u2) ?_ (hj u2 hI)
      simp only [m2, hX] at e2 ⊢
      exact e2
    refine iIf (fun _ => ?_) (fun _ => ?_)
    · refine iIx r1 (by rw [r1', hN]; omega) ?_
      refine iIx r2 (by rw [r2', hN]; omega) ?_
      refine opcm (g := f_X3_house 3 (mI u (nm 30 0) (xN (x3 + 1))) (mI u (nm 30 0) (xN (x3 + 2)))) (o_house _ _) h fun v u1 u2 m1 m2 hI e2 => ?_
      refine iIx r1 (by rw [r1', m1]; omega) ?_
      refine iIx r2 (by rw [r2', m1]; omega) ?_
      refine opce (u2 := u2) ?_ (hj u2 hI)
      simp only [m2, hX] at e2 ⊢
      exact e2
    refine iIf (fun _ => ?_) (fun _ => ?_)
    · refine iIx r1 (by rw [r1', hN]; omega) ?_
      refine iIx r2 (by rw [r2', hN]; omega) ?_
      refine iIx r3 (by rw [r3', hN]; omega) ?_
      refine opcm (g := f_X3_loom 3 (mI u (nm 30 0) (xN (x3 + 1))) (mI u (nm 30 0) (xN (x3 + 2))) (mI u (nm 30 0) (xN (x3 + 3)))) (o_loom _ _ _) h fun v u1 u2 m1 m2 hI e2 => ?_
      refine iIx r1 (by rw [r1', m1]; omega) ?_
      refine iIx r2 (by rw [r2', m1]; omega) ?_
      refine iIx r3 (by rw [r3', m1]; omega) ?_
      refine opce (u2 := u2) ?_ (hj u2 hI)
      simp only [m2, hX] at e2 ⊢
      exact e2
    refine iIf (fun _ => ?_) (fun _ => ?_)
    · refine iIx r1 (by rw [r1', hN]; omega) ?_
      refine iIx r2 (by rw [r2', hN]; omega) ?_
      refine opcm (g := f_X3_aim 3 (mI u (nm 30 0) (xN (x3 + 1))) (mI u (nm 30 0) (xN (x3 + 2)))) (o_aim _ _) h fun v u1 u2 m1 m2 hI e2 => ?_
      refine iIx r1 (by rw [r1', m1]; omega) ?_
      refine iIx r2 (by rw [r2', m1]; omega) ?_
      refine opce (u2 := u2) ?_ (hj u2 hI)
      simp only [m2, hX] at e2 ⊢
      exact e2
    refine iIf (fun _ => ?_) (fun _ => ?_)
    · refine iIx r1 (by rw [r1', hN]; omega) ?_
      refine iIx r2 (by rw [r2', hN]; omega) ?_
      refine opcm (g := f_X3_coins 3 (mI u (nm 30 0) (xN (x3 + 1))) (mI u (nm 30 0) (xN (x3 + 2)))) (o_coins _ _) h fun v u1 u2 m1 m2 hI e2 => ?_
      refine iIx r1 (by rw [r1', m1]; omega) ?_
      refine iIx r2 (by rw [r2', m1]; omega) ?_
      refine opce (u2 := u2) ?_ (hj u2 hI)
      simp only [m2, hX] at e2 ⊢
      exact e2
    refine iIf (fun _ => ?_) (fun _ => ?_)
    · refine iIx r1 (by rw [r1', hN]; omega) ?_
      refine iIx r2 (by rw [r2', hN]; omega) ?_
      refine opcm (g := f_X3_cotton 3 (mI u (nm 30 0) (xN (x3 + 1))) (mI u (nm 30 0) (xN (x3 + 2)))) (o_cotton _ _) h fun v u1 u2 m1 m2 hI e2 => ?_
      refine iIx r1 (by rw [r1', m1]; omega) ?_
      refine iIx r2 (by rw [r2', m1]; omega) ?_
      refine opce (u2 := u2) ?_ (hj u2 hI)
      simp only [m2, hX] at e2 ⊢
      exact e2
    refine iIf (fun _ => ?_) (fun _ => ?_)
    · refine iIx r1 (by rw [r1', hN]; omega) ?_
      refine opcm (g := f_X3_go 3 (mI u (nm 30 0) (xN (x3 + 1)))) (o_go _) h fun v u1 u2 m1 m2 hI e2 => ?_
      refine iIx r1 (by rw [r1', m1]; omega) ?_
      refine opce (u2 := u2) ?_ (hj u2 hI)
      simp only [m2, hX] at e2 ⊢
      exact e2
    refine iIf (fun _ => ?_) (fun _ => ?_)
    · refine iIx r1 (by rw [r1', hN]; omega) ?_
      refine iIx r2 (by rw [r2', hN]; omega) ?_
      refine opcm (g := f_X3_lot 3 (mI u (nm 30 0) (xN (x3 + 1))) (mI u (nm 30 0) (xN (x3 + 2)))) (o_lot _ _) h fun v u1 u2 m1 m2 hI e2 => ?_
      refine iIx r1 (by rw [r1', m1]; omega) ?_
      refine iIx r2 (by rw [r2', m1]; omega) ?_
      refine opce (u2 := u2) ?_ (hj u2 hI)
      simp only [m2, hX] at e2 ⊢
      exact e2
    refine iIf (fun _ => ?_) (fun _ => ?_)
    · refine iIx r1 (by rw [r1', hN]; omega) ?_
      refine iIx r2 (by rw [r2', hN]; omega) ?_
      refine iIx r3 (by rw [r3', hN]; omega) ?_
      refine iIx r4 (by rw [r4', hN]; omega) ?_
      refine iIx r5 (by rw [r5', hN]; omega) ?_
      refine opcm (g := f_X3_feed 3 (mI u (nm 30 0) (xN (x3 + 1))) (mI u (nm 30 0) (xN (x3 + 2))) (mI u (nm 30 0) (xN (x3 + 3))) (mI u (nm 30 0) (xN (x3 + 4))) (mI u (nm 30 0) (xN (x3 + 5)))) (o_feed _ _ _ _ _) h fun v u1 u2 m1 m2 hI e2 => ?_
      refine iIx r1 (by rw [r1', m1]; omega) ?_
      refine iIx r2 (by rw [r2', m1]; omega) ?_
      refine iIx r3 (by rw [r3', m1]; omega) ?_
      refine iIx r4 (by rw [r4', m1]; omega) ?_
      refine iIx r5 (by rw [r5', m1]; omega) ?_
      refine opce (u2 := u2) ?_ (hj u2 hI)
      simp only [m2, hX] at e2 ⊢
      exact e2
    refine iIf (fun _ => ?_) (fun _ => ?_)
    · refine iIx r1 (by rw [r1', hN]; omega) ?_
      refine opcm (g := f_X3_end 3 (mI u (nm 30 0) (xN (x3 + 1)))) (o_end _) h fun v u1 u2 m1 m2 hI e2 => ?_
      refine iIx r1 (by rw [r1', m1]; omega) ?_
      refine opce (u2 := u2) ?_ (hj u2 hI)
      simp only [m2, hX] at e2 ⊢
      exact e2
    refine iIf (fun _ => ?_) (fun _ => ?_)
    · refine opcm (g := f_X3_fault 3) (o_fault) h fun v u1 u2 m1 m2 hI e2 => ?_
      refine opce (u2 := u2) ?_ (hj u2 hI)
      exact e2
    refine iIf (fun _ => ?_) (fun _ => ?_)
    · refine opcm (g := f_X3_sheet 3) (o_sheet) h fun v u1 u2 m1 m2 hI e2 => ?_
      refine opce (u2 := u2) ?_ (hj u2 hI)
      exact e2
    refine iIf (fun _ => ?_) (fun _ => ?_)
    · refine iIx r1 (by rw [r1', hN]; omega) ?_
      refine iIx r2 (by rw [r2', hN]; omega) ?_
      refine opcm (g := f_X3_force 3 (mI u (nm 30 0) (xN (x3 + 1))) (mI u (nm 30 0) (xN (x3 + 2)))) (o_force _ _) h fun v u1 u2 m1 m2 hI e2 => ?_
      refine iIx r1 (by rw [r1', m1]; omega) ?_
      refine iIx r2 (by rw [r2', m1]; omega) ?_
      refine opce (u2 := u2) ?_ (hj u2 hI)
      simp only [m2, hX] at e2 ⊢
      exact e2
    refine iIf (fun _ => ?_) (fun _ => ?_)
    · refine iIx r1 (by rw [r1', hN]; omega) ?_
      refine iIx r2 (by rw [r2', hN]; omega) ?_
      refine opcm (g := f_X3_why 3 (mI u (nm 30 0) (xN (x3 + 1))) (mI u (nm 30 0) (xN (x3 + 2)))) (o_why _ _) h fun v u1 u2 m1 m2 hI e2 => ?_
      refine iIx r1 (by rw [r1', m1]; omega) ?_
      refine iIx r2 (by rw [r2', m1]; omega) ?_
      refine opce (u2 := u2) ?_ (hj u2 hI)
      simp only [m2, hX] at e2 ⊢
      exact e2
    refine iIf (fun _ => ?_) (fun _ => ?_)
    · refine iIx r1 (by rw [r1', hN]; omega) ?_
      refine iIx r2 (by rw [r2', hN]; omega) ?_
      refine iIx r3 (by rw [r3', hN]; omega) ?_
      refine opcm (g := f_X3_pay 3 (mI u (nm 30 0) (xN (x3 + 1))) (mI u (nm 30 0) (xN (x3 + 2))) (mI u (nm 30 0) (xN (x3 + 3)))) (o_pay _ _ _) h fun v u1 u2 m1 m2 hI e2 => ?_
      refine iIx r1 (by rw [r1', m1]; omega) ?_
      refine iIx r2 (by rw [r2', m1]; omega) ?_
      refine iIx r3 (by rw [r3', m1]; omega) ?_
      refine opce (u2 := u2) ?_ (hj u2 hI)
      simp only [m2, hX] at e2 ⊢
      exact e2
    refine iIf (fun _ => ?_) (fun _ => ?_)
    · refine iIx r1 (by rw [r1', hN]; omega) ?_
      refine iIx r2 (by rw [r2', hN]; omega) ?_
      refine opcm (g := f_X3_due 3 (mI u (nm 30 0) (xN (x3 + 1))) (mI u (nm 30 0) (xN (x3 + 2)))) (o_due _ _) h fun v u1 u2 m1 m2 hI e2 => ?_
      refine iIx r1 (by rw [r1', m1]; omega) ?_
      refine iIx r2 (by rw [r2', m1]; omega) ?_
      refine opce (u2 := u2) ?_ (hj u2 hI)
      simp only [m2, hX] at e2 ⊢
      exact e2
    refine iIf (fun _ => ?_) (fun _ => ?_)
    · refine iIx r1 (by rw [r1', hN]; omega) ?_
      refine iIx r2 (by rw [r2', hN]; omega) ?_
      refine iIx r3 (by rw [r3', hN]; omega) ?_
      refine opcm (g := f_X3_bar 3 (mI u (nm 30 0) (xN (x3 + 1))) (mI u (nm 30 0) (xN (x3 + 2))) (mI u (nm 30 0) (xN (x3 + 3)))) (o_bar _ _ _) h fun v u1 u2 m1 m2 hI e2 => ?_
      refine iIx r1 (by rw [r1', m1]; omega) ?_
      refine iIx r2 (by rw [r2', m1]; omega) ?_
      refine iIx r3 (by rw [r3', m1]; omega) ?_
      refine opce (u2 := u2) ?_ (hj u2 hI)
      simp only [m2, hX] at e2 ⊢
      exact e2
    refine iIf (fun _ => ?_) (fun _ => ?_)
    · refine iIx r1 (by rw [r1', hN]; omega) ?_
      refine iIx r2 (by rw [r2', hN]; omega) ?_
      refine iIx r3 (by rw [r3', hN]; omega) ?_
      refine opcm (g := f_X3_weave 3 (mI u (nm 30 0) (xN (x3 + 1))) (mI u (nm 30 0) (xN (x3 + 2))) (mI u (nm 30 0) (xN (x3 + 3)))) (o_weave _ _ _) h fun v u1 u2 m1 m2 hI e2 => ?_
      refine iIx r1 (by rw [r1', m1]; omega) ?_
      refine iIx r2 (by rw [r2', m1]; omega) ?_
      refine iIx r3 (by rw [r3', m1]; omega) ?_
      refine opce (u2 := u2) ?_ (hj u2 hI)
      simp only [m2, hX] at e2 ⊢
      exact e2
    refine iIf (fun _ => ?_) (fun _ => ?_)
    · refine iIx r1 (by rw [r1', hN]; omega) ?_
      refine iIx r2 (by rw [r2', hN]; omega) ?_
      refine opcm (g := f_X3_cloth 3 (mI u (nm 30 0) (xN (x3 + 1))) (mI u (nm 30 0) (xN (x3 + 2)))) (o_cloth _ _) h fun v u1 u2 m1 m2 hI e2 => ?_
      refine iIx r1 (by rw [r1', m1]; omega) ?_
      refine iIx r2 (by rw [r2', m1]; omega) ?_
      refine opce (u2 := u2) ?_ (hj u2 hI)
      simp only [m2, hX] at e2 ⊢
      exact e2
    refine iIf (fun _ => ?_) (fun _ => ?_)
    · refine iIx r1 (by rw [r1', hN]; omega) ?_
      refine opcm (g := f_X3_ask 3 (mI u (nm 30 0) (xN (x3 + 1)))) (o_ask _) h fun v u1 u2 m1 m2 hI e2 => ?_
      refine iIx r1 (by rw [r1', m1]; omega) ?_
      refine opce (u2 := u2) ?_ (hj u2 hI)
      simp only [m2, hX] at e2 ⊢
      exact e2
    refine iIf (fun _ => ?_) (fun _ => ?_)
    · refine opcm (g := f_X3_clear 3) (o_clear) h fun v u1 u2 m1 m2 hI e2 => ?_
      refine opce (u2 := u2) ?_ (hj u2 hI)
      exact e2
    refine iIf (fun _ => ?_) (fun _ => ?_)
    · refine iIx r1 (by rw [r1', hN]; omega) ?_
      refine iIx r2 (by rw [r2', hN]; omega) ?_
      refine opcm (g := f_X3_hands 3 (mI u (nm 30 0) (xN (x3 + 1))) (mI u (nm 30 0) (xN (x3 + 2)))) (o_hands _ _) h fun v u1 u2 m1 m2 hI e2 => ?_
      refine iIx r1 (by rw [r1', m1]; omega) ?_
      refine iIx r2 (by rw [r2', m1]; omega) ?_
      refine opce (u2 := u2) ?_ (hj u2 hI)
      simp only [m2, hX] at e2 ⊢
      exact e2
    refine iIf (fun _ => ?_) (fun _ => ?_)
    · refine iIx r1 (by rw [r1', hN]; omega) ?_
      refine iIx r2 (by rw [r2', hN]; omega) ?_
      refine opcm (g := f_X3_bring 3 (mI u (nm 30 0) (xN (x3 + 1))) (mI u (nm 30 0) (xN (x3 + 2)))) (o_bring _ _) h fun v u1 u2 m1 m2 hI e2 => ?_
      refine iIx r1 (by rw [r1', m1]; omega) ?_
      refine iIx r2 (by rw [r2', m1]; omega) ?_
      refine opce (u2 := u2) ?_ (hj u2 hI)
      simp only [m2, hX] at e2 ⊢
      exact e2
    refine iIf (fun _ => ?_) (fun _ => ?_)
    · refine iIx r1 (by rw [r1', hN]; omega) ?_
      refine iIx r2 (by rw [r2', hN]; omega) ?_
      refine opcm (g := f_X3_mill 3 (mI u (nm 30 0) (xN (x3 + 1))) (mI u (nm 30 0) (xN (x3 + 2)))) (o_mill _ _) h fun v u1 u2 m1 m2 hI e2 => ?_
      refine iIx r1 (by rw [r1', m1]; omega) ?_
      refine iIx r2 (by rw [r2', m1]; omega) ?_
      refine opce (u2 := u2) ?_ (hj u2 hI)
      simp only [m2, hX] at e2 ⊢
      exact e2
    refine iIf (fun _ => ?_) (fun _ => ?_)
    · refine iIx r1 (by rw [r1', hN]; omega) ?_
      refine iIx r2 (by rw [r2', hN]; omega) ?_
      refine opcm (g := f_X3_price 3 (mI u (nm 30 0) (xN (x3 + 1))) (mI u (nm 30 0) (xN (x3 + 2)))) (o_price _ _) h fun v u1 u2 m1 m2 hI e2 => ?_
      refine iIx r1 (by rw [r1', m1]; omega) ?_
      refine iIx r2 (by rw [r2', m1]; omega) ?_
      refine opce (u2 := u2) ?_ (hj u2 hI)
      simp only [m2, hX] at e2 ⊢
      exact e2
    refine iIf (fun _ => ?_) (fun _ => ?_)
    · refine iIx r1 (by rw [r1', hN]; omega) ?_
      refine iIx r2 (by rw [r2', hN]; omega) ?_
      refine opcm (g := f_X3_talk 3 (mI u (nm 30 0) (xN (x3 + 1))) (mI u (nm 30 0) (xN (x3 + 2)))) (o_talk _ _) h fun v u1 u2 m1 m2 hI e2 => ?_
      refine iIx r1 (by rw [r1', m1]; omega) ?_
      refine iIx r2 (by rw [r2', m1]; omega) ?_
      refine opce (u2 := u2) ?_ (hj u2 hI)
      simp only [m2, hX] at e2 ⊢
      exact e2
    refine iIf (fun _ => ?_) (fun _ => ?_)
    · refine iIx r1 (by rw [r1', hN]; omega) ?_
      refine iIx r2 (by rw [r2', hN]; omega) ?_
      refine opcm (g := f_X3_heard 3 (mI u (nm 30 0) (xN (x3 + 1))) (mI u (nm 30 0) (xN (x3 + 2)))) (o_heard _ _) h fun v u1 u2 m1 m2 hI e2 => ?_
      refine iIx r1 (by rw [r1', m1]; omega) ?_
      refine iIx r2 (by rw [r2', m1]; omega) ?_
      refine opce (u2 := u2) ?_ (hj u2 hI)
      simp only [m2, hX] at e2 ⊢
      exact e2
    refine iIf (fun _ => ?_) (fun _ => ?_)
    · refine iIx r1 (by rw [r1', hN]; omega) ?_
      refine opcm (g := f_X3_likes 3 (mI u (nm 30 0) (xN (x3 + 1)))) (o_likes _) h fun v u1 u2 m1 m2 hI e2 => ?_
      refine iIx r1 (by rw [r1', m1]; omega) ?_
      refine opce (u2 := u2) ?_ (hj u2 hI)
      simp only [m2, hX] at e2 ⊢
      exact e2
    refine iIf (fun _ => ?_) (fun _ => ?_)
    · refine iIx r1 (by rw [r1', hN]; omega) ?_
      refine iIx r2 (by rw [r2', hN]; omega) ?_
      refine opcm (g := f_X3_sold 3 (mI u (nm 30 0) (xN (x3 + 1))) (mI u (nm 30 0) (xN (x3 + 2)))) (o_sold _ _) h fun v u1 u2 m1 m2 hI e2 => ?_
      refine iIx r1 (by rw [r1', m1]; omega) ?_
      refine iIx r2 (by rw [r2', m1]; omega) ?_
      refine opce (u2 := u2) ?_ (hj u2 hI)
      simp only [m2, hX] at e2 ⊢
      exact e2
    refine iIf (fun _ => ?_) (fun _ => ?_)
    · refine iIx r1 (by rw [r1', hN]; omega) ?_
      refine iIx r2 (by rw [r2', hN]; omega) ?_
      refine iIf (fun hz => ?_) (fun hz => ?_)
      · refine opcm (g := f_X3_wrong 3 (mI u (nm 30 0) (xN (x3 + 1))) 0) (o_wrong _ _) h fun v u1 u2 m1 m2 hI e2 => ?_
        refine iIx r1 (by rw [r1', m1]; omega) ?_
        refine iIx r2 (by rw [r2', m1]; omega) ?_
        refine iIf (fun _ => ?_) (fun hq => absurd (by rw [m2, ← hX]; exact hz) hq)
        refine opce (u2 := u2) ?_ (hj u2 hI)
        simp only [m2, hX] at e2 ⊢
        exact e2
      · refine opcm (g := f_X3_wrong 3 (mI u (nm 30 0) (xN (x3 + 1))) 1) (o_wrong _ _) h fun v u1 u2 m1 m2 hI e2 => ?_
        refine iIx r1 (by rw [r1', m1]; omega) ?_
        refine iIx r2 (by rw [r2', m1]; omega) ?_
        refine iIf (fun hq => absurd (by rw [hX, ← m2]; exact hq) hz) (fun _ => ?_)
        refine opce (u2 := u2) ?_ (hj u2 hI)
        simp only [m2, hX] at e2 ⊢
        exact e2
    refine iIf (fun _ => ?_) (fun _ => ?_)
    · refine opcm (g := f_X3_look 3) (o_look) h fun v u1 u2 m1 m2 hI e2 => ?_
      refine opce (u2 := u2) ?_ (hj u2 hI)
      exact e2
    refine iIf (fun _ => ?_) (fun _ => ?_)
    · refine iIx r1 (by rw [r1', hN]; omega) ?_
      refine iIx r2 (by rw [r2', hN]; omega) ?_
      refine iIx r3 (by rw [r3', hN]; omega) ?_
      refine opcm (g := f_X3_gift 3 (mI u (nm 30 0) (xN (x3 + 1))) (mI u (nm 30 0) (xN (x3 + 2))) (mI u (nm 30 0) (xN (x3 + 3)))) (o_gift _ _ _) h fun v u1 u2 m1 m2 hI e2 => ?_
      refine iIx r1 (by rw [r1', m1]; omega) ?_
      refine iIx r2 (by rw [r2', m1]; omega) ?_
      refine iIx r3 (by rw [r3', m1]; omega) ?_
      refine opce (u2 := u2) ?_ (hj u2 hI)
      simp only [m2, hX] at e2 ⊢
      exact e2
    refine iIf (fun _ => ?_) (fun _ => ?_)
    · refine opcm (g := f_X3_forget 3) (o_forget) h fun v u1 u2 m1 m2 hI e2 => ?_
      refine opce (u2 := u2) ?_ (hj u2 hI)
      exact e2
    refine iIf (fun _ => ?_) (fun _ => ?_)
    · refine iIx r1 (by rw [r1', hN]; omega) ?_
      refine iIx r2 (by rw [r2', hN]; omega) ?_
      refine opcm (g := f_X3_best 3 (mI u (nm 30 0) (xN (x3 + 1))) (mI u (nm 30 0) (xN (x3 + 2)))) (o_best _ _) h fun v u1 u2 m1 m2 hI e2 => ?_
      refine iIx r1 (by rw [r1', m1]; omega) ?_
      refine iIx r2 (by rw [r2', m1]; omega) ?_
      refine opce (u2 := u2) ?_ (hj u2 hI)
      simp only [m2, hX] at e2 ⊢
      exact e2
    refine iIf (fun _ => ?_) (fun _ => ?_)
    · refine iIx r1 (by rw [r1', hN]; omega) ?_
      refine opcm (g := f_X3_hungry 3 (mI u (nm 30 0) (xN (x3 + 1)))) (o_hungry _) h fun v u1 u2 m1 m2 hI e2 => ?_
      refine iIx r1 (by rw [r1', m1]; omega) ?_
      refine opce (u2 := u2) ?_ (hj u2 hI)
      simp only [m2, hX] at e2 ⊢
      exact e2
    refine iIf (fun _ => ?_) (fun _ => ?_)
    · refine iIx r1 (by rw [r1', hN]; omega) ?_
      refine iIx r2 (by rw [r2', hN]; omega) ?_
      refine opcm (g := f_X3_keeps 3 (mI u (nm 30 0) (xN (x3 + 1))) (mI u (nm 30 0) (xN (x3 + 2)))) (o_keeps _ _) h fun v u1 u2 m1 m2 hI e2 => ?_
      refine iIx r1 (by rw [r1', m1]; omega) ?_
      refine iIx r2 (by rw [r2', m1]; omega) ?_
      refine opce (u2 := u2) ?_ (hj u2 hI)
      simp only [m2, hX] at e2 ⊢
      exact e2
    refine iIf (fun _ => ?_) (fun _ => ?_)
    · refine iIx r1 (by rw [r1', hN]; omega) ?_
      refine iIx r2 (by rw [r2', hN]; omega) ?_
      refine opcm (g := f_X3_told 3 (mI u (nm 30 0) (xN (x3 + 1))) (mI u (nm 30 0) (xN (x3 + 2)))) (o_told _ _) h fun v u1 u2 m1 m2 hI e2 => ?_
      refine iIx r1 (by rw [r1', m1]; omega) ?_
      refine iIx r2 (by rw [r2', m1]; omega) ?_
      refine opce (u2 := u2) ?_ (hj u2 hI)
      simp only [m2, hX] at e2 ⊢
      exact e2
    refine iIf (fun _ => ?_) (fun _ => ?_)
    · refine iIx r1 (by rw [r1', hN]; omega) ?_
      refine iIx r2 (by rw [r2', hN]; omega) ?_
      refine iIx r3 (by rw [r3', hN]; omega) ?_
      refine opcm (g := f_X3_check 3 (mI u (nm 30 0) (xN (x3 + 1))) (mI u (nm 30 0) (xN (x3 + 2))) (mI u (nm 30 0) (xN (x3 + 3)))) (o_check _ _ _) h fun v u1 u2 m1 m2 hI e2 => ?_
      refine iIx r1 (by rw [r1', m1]; omega) ?_
      refine iIx r2 (by rw [r2', m1]; omega) ?_
      refine iIx r3 (by rw [r3', m1]; omega) ?_
      refine opce (u2 := u2) ?_ (hj u2 hI)
      simp only [m2, hX] at e2 ⊢
      exact e2
    refine iIf (fun _ => ?_) (fun _ => ?_)
    · refine iIx r1 (by rw [r1', hN]; omega) ?_
      refine iIx r2 (by rw [r2', hN]; omega) ?_
      refine opcm (g := f_X3_is 3 (mI u (nm 30 0) (xN (x3 + 1))) (mI u (nm 30 0) (xN (x3 + 2)))) (o_is _ _) h fun v u1 u2 m1 m2 hI e2 => ?_
      refine iIx r1 (by rw [r1', m1]; omega) ?_
      refine iIx r2 (by rw [r2', m1]; omega) ?_
      refine opce (u2 := u2) ?_ (hj u2 hI)
      simp only [m2, hX] at e2 ⊢
      exact e2
    refine iIf (fun _ => ?_) (fun _ => ?_)
    · refine iIx r1 (by rw [r1', hN]; omega) ?_
      refine iIx r2 (by rw [r2', hN]; omega) ?_
      refine opcm (g := f_X3_has 3 (mI u (nm 30 0) (xN (x3 + 1))) (mI u (nm 30 0) (xN (x3 + 2)))) (o_has _ _) h fun v u1 u2 m1 m2 hI e2 => ?_
      refine iIx r1 (by rw [r1', m1]; omega) ?_
      refine iIx r2 (by rw [r2', m1]; omega) ?_
      refine opce (u2 := u2) ?_ (hj u2 hI)
      simp only [m2, hX] at e2 ⊢
      exact e2
    refine iIf (fun _ => ?_) (fun _ => ?_)
    · refine iIx r1 (by rw [r1', hN]; omega) ?_
      refine opcm (g := f_X3_count 3 (mI u (nm 30 0) (xN (x3 + 1)))) (o_count _) h fun v u1 u2 m1 m2 hI e2 => ?_
      refine iIx r1 (by rw [r1', m1]; omega) ?_
      refine opce (u2 := u2) ?_ (hj u2 hI)
      simp only [m2, hX] at e2 ⊢
      exact e2
    exact hj u ⟨h.1, h.2.1, h.2.2.1, by have := h.2.2.2.1; omega, by have := h.2.2.2.2; omega⟩
/-- the law out of the 43 agreements -/
theorem law_of {G : zM → Prop} (h0 : ∀ (L : Nat) (xs : Nat → Int32) (u : zM), Lay0 L xs u → G u) (hO : Ops G) (L : Nat) (xs : Nat → Int32) (hL : L ≤ 384) : ∃ u', f_L_law (zU0 L xs) = some (1, u') ∧ mC u' ≤ 601024 ∧ mS u' ≤ 7293034 := by
  obtain ⟨b, u', e, h1, h2, h3⟩ := law_start (L := L) (xs := xs) (P := fun b u' => b = 1 ∧ mC u' ≤ 601024 ∧ mS u' ≤ 7293034) fun u hu => by
    have hm : ∀ c v, c ≤ 64 → Inv G L xs c v → (1 : Int32) = 1 ∧ mC v ≤ 601024 ∧ mS v ≤ 7293034 := by
      intro c v hc hI
      have i1 := hI.2.2.2.1
      have i2 := hI.2.2.2.2
      exact ⟨rfl, by omega, by omega⟩
    have i1 := hu.2.2.2.2.2.2.1
    have i2 := hu.2.2.2.2.2.2.2
    exact law_rounds hO hL hm zFu 0 u (by decide) (by decide) ⟨h0 L xs u hu, hu.2.2.2.2.2.1.1, hu.2.2.2.2.2.1.2, by omega, by omega⟩
  exact ⟨u', by rw [e, h1], h2, h3⟩
