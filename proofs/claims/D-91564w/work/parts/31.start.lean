set_option maxRecDepth 100000
/-! ===== the law's start ===== -/
def zU0 (L : Nat) (xs : Nat → Int32) : zM := (fun n j => if n = nm 30 0 then xs j else if nS n = 28 then (zByt.getD (nK n) []).getD j 0 else 0, fun _ _ => none, fun _ _ => 0, fun n => if n = nm 30 0 then L else if nS n = 28 then zLen.getD (nK n) 0 else 0, fun _ => 0, fun s => if s = 27 then 27 else if s = 28 then 27 else if s = 30 then 1 else 0, 0, 0)
theorem zU0_al {L : Nat} {xs : Nat → Int32} {n : Nat} (h : al (zU0 L xs) n) : ((nS n = 27 ∨ nS n = 28) ∧ nK n < 27) ∨ n = nm 30 0 := by
  have h' : nK n < (if nS n = 27 then 27 else if nS n = 28 then 27 else if nS n = 30 then 1 else 0) := h
  by_cases e1 : nS n = 27
  · rw [if_pos e1] at h'; exact Or.inl ⟨Or.inl e1, h'⟩
  · rw [if_neg e1] at h'
    by_cases e2 : nS n = 28
    · rw [if_pos e2] at h'; exact Or.inl ⟨Or.inr e2, h'⟩
    · rw [if_neg e2] at h'
      by_cases e3 : nS n = 30
      · rw [if_pos e3] at h'
        refine Or.inr ?_
        rw [← nm_of n, e3, show nK n = 0 by omega]
      · rw [if_neg e3] at h'; omega
theorem zU0_kd {L : Nat} {xs : Nat → Int32} {n : Nat} (h : al (zU0 L xs) n) : 27 ≤ kd n := by
  have e : kd n = nS n % 32 := by unfold kd nS; omega
  rcases zU0_al h with ⟨h1, -⟩ | h1
  · rcases h1 with h1 | h1 <;> rw [e, h1] <;> decide
  · rw [h1]; decide
theorem zU0_wf {L : Nat} {xs : Nat → Int32} : zWf (zU0 L xs) := by
  refine ⟨fun n k n' h1 h2 h3 => (by cases h3), fun i hi => ⟨?_, ?_, ?_, fun j => ?_⟩, fun n h1 h2 => zU0_al h1⟩
  · rw [al_nm (by decide)]; exact hi
  · rw [al_nm (by decide)]; exact hi
  · show (if nm 28 i = nm 30 0 then L else if nS (nm 28 i) = 28 then zLen.getD (nK (nm 28 i)) 0 else 0) = _
    rw [nS_nm (by decide), nK_nm (by decide), if_neg (by unfold nm; omega), if_pos rfl]
  · show (if nm 28 i = nm 30 0 then xs j else if nS (nm 28 i) = 28 then (zByt.getD (nK (nm 28 i)) []).getD j 0 else 0) = _
    rw [nS_nm (by decide), nK_nm (by decide), if_neg (by unfold nm; omega), if_pos rfl]
def zTm (i : Nat) : Term := .string (zStr.getD i ("", 0, "")).1 (zStr.getD i ("", 0, "")).2.1
def zFl : List Cond := flatC (Jvm.Cond.and given_1 narrow_1)
def zC1 (i : Nat) : Cond := .exactly (zTm i) "java/lang/String"
def zC2 (i : Nat) : Cond := .eq (.field (zTm i) "java/lang/String" "coder" "B") (.int 0)
def zC3 (i : Nat) : Cond := .arrayOf (.field (zTm i) "java/lang/String" "value" "[B") .byte
def zC4 (i : Nat) : Cond := .eq (.length (.field (zTm i) "java/lang/String" "value" "[B")) (.int (Int32.ofNat (zLen.getD i 0)))
def zC5 (i j : Nat) : Cond := .eq (.elem (.field (zTm i) "java/lang/String" "value" "[B") (.int (Int32.ofNat j))) (.int ((zByt.getD i []).getD j 0))
set_option maxHeartbeats 4000000 in
theorem zC1_in : ((List.range 27).all fun i => decide (zC1 i ∈ zFl)) = true := by decide +kernel
set_option maxHeartbeats 4000000 in
theorem zC2_in : ((List.range 27).all fun i => decide (zC2 i ∈ zFl)) = true := by decide +kernel
set_option maxHeartbeats 4000000 in
theorem zC3_in : ((List.range 27).all fun i => decide (zC3 i ∈ zFl)) = true := by decide +kernel
set_option maxHeartbeats 4000000 in
theorem zC4_in : ((List.range 27).all fun i => decide (zC4 i ∈ zFl)) = true := by decide +kernel
theorem zC5_0 : ((zFl.drop 104).take 12) = (List.range 12).map (zC5 0) := by rfl
theorem zC5_1 : ((zFl.drop 120).take 24) = (List.range 24).map (zC5 1) := by rfl
theorem zC5_2 : ((zFl.drop 148).take 79) = (List.range 79).map (zC5 2) := by rfl
theorem zC5_3 : ((zFl.drop 231).take 4) = (List.range 4).map (zC5 3) := by rfl
theorem zC5_4 : ((zFl.drop 239).take 4) = (List.range 4).map (zC5 4) := by rfl
theorem zC5_5 : ((zFl.drop 247).take 3) = (List.range 3).map (zC5 5) := by rfl
theorem zC5_6 : ((zFl.drop 254).take 3) = (List.range 3).map (zC5 6) := by rfl
theorem zC5_7 : ((zFl.drop 261).take 4) = (List.range 4).map (zC5 7) := by rfl
theorem zC5_8 : ((zFl.drop 269).take 4) = (List.range 4).map (zC5 8) := by rfl
theorem zC5_9 : ((zFl.drop 277).take 3) = (List.range 3).map (zC5 9) := by rfl
theorem zC5_10 : ((zFl.drop 284).take 5) = (List.range 5).map (zC5 10) := by rfl
theorem zC5_11 : ((zFl.drop 293).take 4) = (List.range 4).map (zC5 11) := by rfl
theorem zC5_12 : ((zFl.drop 301).take 6) = (List.range 6).map (zC5 12) := by rfl
theorem zC5_13 : ((zFl.drop 311).take 5) = (List.range 5).map (zC5 13) := by rfl
theorem zC5_14 : ((zFl.drop 320).take 6) = (List.range 6).map (zC5 14) := by rfl
theorem zC5_15 : ((zFl.drop 330).take 5) = (List.range 5).map (zC5 15) := by rfl
theorem zC5_16 : ((zFl.drop 339).take 5) = (List.range 5).map (zC5 16) := by rfl
theorem zC5_17 : ((zFl.drop 348).take 5) = (List.range 5).map (zC5 17) := by rfl
theorem zC5_18 : ((zFl.drop 357).take 5) = (List.range 5).map (zC5 18) := by rfl
theorem zC5_19 : ((zFl.drop 366).take 8) = (List.range 8).map (zC5 19) := by rfl
theorem zC5_20 : ((zFl.drop 378).take 5) = (List.range 5).map (zC5 20) := by rfl
theorem zC5_21 : ((zFl.drop 387).take 4) = (List.range 4).map (zC5 21) := by rfl
theorem zC5_22 : ((zFl.drop 395).take 3) = (List.range 3).map (zC5 22) := by rfl
theorem zC5_23 : ((zFl.drop 402).take 5) = (List.range 5).map (zC5 23) := by rfl
theorem zC5_24 : ((zFl.drop 411).take 3) = (List.range 3).map (zC5 24) := by rfl
theorem zC5_25 : ((zFl.drop 418).take 3) = (List.range 3).map (zC5 25) := by rfl
theorem zC5_26 : ((zFl.drop 425).take 2) = (List.range 2).map (zC5 26) := by rfl
theorem zC5_in : ∀ i j : Nat, i < 27 → j < zLen.getD i 0 → zC5 i j ∈ zFl := by
  intro i j hi hj
  have h : ∀ (p n : Nat), ((zFl.drop p).take n) = (List.range n).map (zC5 i) → j < n → zC5 i j ∈ zFl := fun p n e h => List.mem_of_mem_drop (List.mem_of_mem_take (by rw [e]; exact List.mem_map.mpr ⟨j, List.mem_range.mpr h, rfl⟩))
  rcases (show i = 0 ∨ i = 1 ∨ i = 2 ∨ i = 3 ∨ i = 4 ∨ i = 5 ∨ i = 6 ∨ i = 7 ∨ i = 8 ∨ i = 9 ∨ i = 10 ∨ i = 11 ∨ i = 12 ∨ i = 13 ∨ i = 14 ∨ i = 15 ∨ i = 16 ∨ i = 17 ∨ i = 18 ∨ i = 19 ∨ i = 20 ∨ i = 21 ∨ i = 22 ∨ i = 23 ∨ i = 24 ∨ i = 25 ∨ i = 26 by omega) with rfl | rfl | rfl | rfl | rfl | rfl | rfl | rfl | rfl | rfl | rfl | rfl | rfl | rfl | rfl | rfl | rfl | rfl | rfl | rfl | rfl | rfl | rfl | rfl | rfl | rfl | rfl
  · exact h _ _ zC5_0 hj
  · exact h _ _ zC5_1 hj
  · exact h _ _ zC5_2 hj
  · exact h _ _ zC5_3 hj
  · exact h _ _ zC5_4 hj
  · exact h _ _ zC5_5 hj
  · exact h _ _ zC5_6 hj
  · exact h _ _ zC5_7 hj
  · exact h _ _ zC5_8 hj
  · exact h _ _ zC5_9 hj
  · exact h _ _ zC5_10 hj
  · exact h _ _ zC5_11 hj
  · exact h _ _ zC5_12 hj
  · exact h _ _ zC5_13 hj
  · exact h _ _ zC5_14 hj
  · exact h _ _ zC5_15 hj
  · exact h _ _ zC5_16 hj
  · exact h _ _ zC5_17 hj
  · exact h _ _ zC5_18 hj
  · exact h _ _ zC5_19 hj
  · exact h _ _ zC5_20 hj
  · exact h _ _ zC5_21 hj
  · exact h _ _ zC5_22 hj
  · exact h _ _ zC5_23 hj
  · exact h _ _ zC5_24 hj
  · exact h _ _ zC5_25 hj
  · exact h _ _ zC5_26 hj
theorem zAll_in {P : Nat → Bool} {n i : Nat} (h : ((List.range n).all P) = true) (hi : i < n) : P i = true := List.all_eq_true.mp h i (List.mem_range.mpr hi)
theorem zTx : ∀ i j : Nat, i < 27 → j < 27 → zLen.getD i 0 = zLen.getD j 0 → zByt.getD i [] = zByt.getD j [] → i = j := by
  have h : ((List.range 27).all fun i => (List.range 27).all fun j => decide (zByt.getD i [] = zByt.getD j [] → i = j)) = true := by decide +kernel
  intro i j hi hj _ e
  exact of_decide_eq_true (zAll_in (zAll_in h hi) hj) e
theorem zBl : ∀ i, i < 27 → (zByt.getD i []).length = zLen.getD i 0 ∧ zLen.getD i 0 < 2 ^ 31 := by
  have h : ((List.range 27).all fun i => decide ((zByt.getD i []).length = zLen.getD i 0 ∧ zLen.getD i 0 < 2 ^ 31)) = true := by decide +kernel
  intro i hi
  exact of_decide_eq_true (zAll_in h hi)
/-- the String constants at the start -/
theorem zSof {args : Array Value} {s : State} {A : Nat → Prop} (hs : ∀ c ∈ zFl, c.before args s = true) (hA : ∀ a : Nat, a < s.heap.size → ¬ A a) : ∃ adK adV : Nat → Nat, vk_S 27 zLen zByt adK adV A s s.heap ∧ ∀ i : Nat, i < 27 → (zTm i).eval args s none [] s = some (.ref (adK i)) := by
  have hex : ∀ i : Nat, i < 27 → (zC1 i).before args s = true := fun i hi => hs _ (of_decide_eq_true (zAll_in zC1_in hi))
  have hco : ∀ i : Nat, i < 27 → (zC2 i).before args s = true := fun i hi => hs _ (of_decide_eq_true (zAll_in zC2_in hi))
  have har : ∀ i : Nat, i < 27 → (zC3 i).before args s = true := fun i hi => hs _ (of_decide_eq_true (zAll_in zC3_in hi))
  have hle : ∀ i : Nat, i < 27 → (zC4 i).before args s = true := fun i hi => hs _ (of_decide_eq_true (zAll_in zC4_in hi))
  have hel : ∀ i : Nat, i < 27 → ∀ j : Nat, j < zLen.getD i 0 → (zC5 i j).before args s = true := fun i hi j hj => hs _ (zC5_in i j hi hj)
  have h0 : ∀ i : Nat, ∃ q : Nat × Nat, i < 27 → (zTm i).eval args s none [] s = some (.ref q.1) ∧ va_O "java/lang/String" q.1 A s s.heap ∧ va_OF "java/lang/String" "coder" "B" (.int 0) q.1 A s s.heap ∧ va_OF "java/lang/String" "value" "[B" (.ref q.2) q.1 A s s.heap ∧ va_T .byte q.2 (zLen.getD i 0) (fun j => .int ((zByt.getD i []).getD j 0)) A s s.heap := by
    intro i
    by_cases hi : i < 27
    · obtain ⟨a, c, cA, kA, q1, q2, q3, q4, q5, q6, -⟩ := Cond.exactly_spec (args := args) (first := s) (o := none) (s := s) (idx := []) (t := zTm i) (cls := "java/lang/String") (hex i hi)
      obtain ⟨t, ht, hT⟩ := va_Tof (f := fun j => .int ((zByt.getD i []).getD j 0)) (A := A) (zBl i hi).2 (har i hi) (va_eqt (hle i hi)) (fun j hj => va_eqt (hel i hi j hj)) hA
      exact ⟨(a, t), fun _ => ⟨q1, ⟨cA, q3, q5, by rw [q6]; exact q2, hA a (Array.getElem?_eq_some_iff.mp q3).1⟩, vk_OFof q1 (va_eqt (hco i hi)) hA, vk_OFof q1 ht hA, hT⟩⟩
    · exact ⟨(0, 0), fun h => absurd h hi⟩
  obtain ⟨ad, had⟩ := Classical.axiomOfChoice h0
  refine ⟨fun i => (ad i).1, fun i => (ad i).2, ⟨fun i hi => (had i hi).2, fun i j hi hj e => ?_⟩, fun i hi => (had i hi).1⟩
  obtain ⟨-, -, -, ⟨c1, k1, i1, f1, cell1, a1, -, a3, -, a5, -⟩, ⟨d1, b1, -, -, -, b5, b6, -⟩⟩ := had i hi
  obtain ⟨-, -, -, ⟨c2, k2, i2, f2, cell2, e1, -, e3, -, e5, -⟩, ⟨d2, g1, -, -, -, g5, g6, -⟩⟩ := had j hj
  cases Option.some.inj (a1.symm.trans e1)
  have e' : (ad i).1 = (ad j).1 := e
  rw [e'] at a3
  cases Option.some.inj (a3.symm.trans e3)
  have ev : (ad i).2 = (ad j).2 := Value.ref.inj (Option.some.inj (a5.symm.trans e5))
  rw [ev] at b1
  cases Option.some.inj (b1.symm.trans g1)
  have el : zLen.getD i 0 = zLen.getD j 0 := by
    have h1 := congrArg Int32.toInt (b5.symm.trans g5)
    have l1 := (zBl i hi).2
    have l2 := (zBl j hj).2
    rw [Int32.toInt_ofNat_of_lt l1, Int32.toInt_ofNat_of_lt l2] at h1
    omega
  refine zTx i j hi hj el (List.ext_getElem? fun q => ?_)
  by_cases hq : q < zLen.getD i 0
  · have h1 := b6 q hq
    have h2 := g6 q (by omega)
    have h3 := Value.int.inj (Option.some.inj (h1.symm.trans h2))
    rw [List.getD_eq_getElem?_getD (l := zByt.getD i []), List.getD_eq_getElem?_getD (l := zByt.getD j [])] at h3
    have l1 := (zBl i hi).1
    have l2 := (zBl j hj).1
    rw [List.getElem?_eq_getElem (by omega), List.getElem?_eq_getElem (by omega)] at h3 ⊢
    exact congrArg some h3
  · have l1 := (zBl i hi).1
    have l2 := (zBl j hj).1
    rw [List.getElem?_eq_none (by omega), List.getElem?_eq_none (by omega)]
theorem zKn {s : State} {b : Nat} (hts : ∀ w ∈ lw_all, w.before #[Value.ref b] s = true) : ∃ D : va_G, va_K D zCl [] s := by
  obtain ⟨c0, i0, h0⟩ := u_known hts in_X0 (hts _ q119)
  obtain ⟨c1, i1, h1⟩ := u_known hts in_X1 (hts _ q137)
  obtain ⟨c2, i2, h2⟩ := u_known hts in_X2 (hts _ q170)
  obtain ⟨c3, i3, h3⟩ := u_known hts in_X3 (hts _ q1216)
  obtain ⟨c4, i4, h4⟩ := u_known hts in_X4 (hts _ q333)
  obtain ⟨c5, i5, h5⟩ := u_known hts in_X5 (hts _ q435)
  obtain ⟨c6, i6, h6⟩ := u_known hts in_X6 (hts _ q511)
  obtain ⟨c7, i7, h7⟩ := u_known hts in_X6 (hts _ q511)
  obtain ⟨c8, i8, h8⟩ := u_known hts in_X8 (hts _ q571)
  obtain ⟨c9, i9, h9⟩ := u_known hts in_X9 (hts _ q997)
  obtain ⟨c10, i10, h10⟩ := u_known hts in_X10 (hts _ q737)
  obtain ⟨c11, i11, h11⟩ := u_known hts in_X11 (hts _ q848)
  obtain ⟨c12, i12, h12⟩ := u_known hts in_X12 (hts _ q1062)
  refine ⟨(fun c => [c0, c1, c2, c3, c4, c5, c6, c7, c8, c9, c10, c11, c12].getD c 0, fun c => [i0, i1, i2, i3, i4, i5, i6, i7, i8, i9, i10, i11, i12].getD c (fun _ => 0)), fun c q hq => ?_, fun k q hq => by cases hq⟩
  have hc : c < 13 := (List.getElem?_eq_some_iff.mp hq).1
  rcases (show c = 0 ∨ c = 1 ∨ c = 2 ∨ c = 3 ∨ c = 4 ∨ c = 5 ∨ c = 6 ∨ c = 7 ∨ c = 8 ∨ c = 9 ∨ c = 10 ∨ c = 11 ∨ c = 12 by omega) with rfl | rfl | rfl | rfl | rfl | rfl | rfl | rfl | rfl | rfl | rfl | rfl | rfl
  · cases hq; exact h0
  · cases hq; exact h1
  · cases hq; exact h2
  · cases hq; exact h3
  · cases hq; exact h4
  · cases hq; exact h5
  · cases hq; exact h6
  · cases hq; exact h7
  · cases hq; exact h8
  · cases hq; exact h9
  · cases hq; exact h10
  · cases hq; exact h11
  · cases hq; exact h12
theorem zNf_at {s : State} {b : Nat} (hts : ∀ w ∈ lw_tbl, w.before #[Value.ref b] s = true) : ∀ q ∈ zNf, va_Nw (.fieldLinkNest q.1 q.2.1 q.2.2.1 q.2.2.2.1 q.2.2.2.2.1 q.2.2.2.2.2) s := by
  unfold zNf
  refine List.forall_mem_cons.mpr ⟨va_tabs rfl rfl (hts _ q178), ?_⟩
  refine List.forall_mem_cons.mpr ⟨va_tabs rfl rfl (hts _ q180), ?_⟩
  refine List.forall_mem_cons.mpr ⟨va_tabs rfl rfl (hts _ q183), ?_⟩
  refine List.forall_mem_cons.mpr ⟨va_tabs rfl rfl (hts _ q186), ?_⟩
  refine List.forall_mem_cons.mpr ⟨va_tabs rfl rfl (hts _ q189), ?_⟩
  refine List.forall_mem_cons.mpr ⟨va_tabs rfl rfl (hts _ q191), ?_⟩
  refine List.forall_mem_cons.mpr ⟨va_tabs rfl rfl (hts _ q193), ?_⟩
  refine List.forall_mem_cons.mpr ⟨va_tabs rfl rfl (hts _ q219), ?_⟩
  refine List.forall_mem_cons.mpr ⟨va_tabs rfl rfl (hts _ q339), ?_⟩
  refine List.forall_mem_cons.mpr ⟨va_tabs rfl rfl (hts _ q341), ?_⟩
  refine List.forall_mem_cons.mpr ⟨va_tabs rfl rfl (hts _ q343), ?_⟩
  refine List.forall_mem_cons.mpr ⟨va_tabs rfl rfl (hts _ q344), ?_⟩
  refine List.forall_mem_cons.mpr ⟨va_tabs rfl rfl (hts _ q346), ?_⟩
  refine List.forall_mem_cons.mpr ⟨va_tabs rfl rfl (hts _ q348), ?_⟩
  refine List.forall_mem_cons.mpr ⟨va_tabs rfl rfl (hts _ q350), ?_⟩
  refine List.forall_mem_cons.mpr ⟨va_tabs rfl rfl (hts _ q352), ?_⟩
  refine List.forall_mem_cons.mpr ⟨va_tabs rfl rfl (hts _ q354), ?_⟩
  refine List.forall_mem_cons.mpr ⟨va_tabs rfl rfl (hts _ q356), ?_⟩
  refine List.forall_mem_cons.mpr ⟨va_tabs rfl rfl (hts _ q358), ?_⟩
  refine List.forall_mem_cons.mpr ⟨va_tabs rfl rfl (hts _ q359), ?_⟩
  refine List.forall_mem_cons.mpr ⟨va_tabs rfl rfl (hts _ q360), ?_⟩
  refine List.forall_mem_cons.mpr ⟨va_tabs rfl rfl (hts _ q362), ?_⟩
  refine List.forall_mem_cons.mpr ⟨va_tabs rfl rfl (hts _ q363), ?_⟩
  refine List.forall_mem_cons.mpr ⟨va_tabs rfl rfl (hts _ q364), ?_⟩
  refine List.forall_mem_cons.mpr ⟨va_tabs rfl rfl (hts _ q366), ?_⟩
  refine List.forall_mem_cons.mpr ⟨va_tabs rfl rfl (hts _ q368), ?_⟩
  refine List.forall_mem_cons.mpr ⟨va_tabs rfl rfl (hts _ q441), ?_⟩
  refine List.forall_mem_cons.mpr ⟨va_tabs rfl rfl (hts _ q443), ?_⟩
  refine List.forall_mem_cons.mpr ⟨va_tabs rfl rfl (hts _ q445), ?_⟩
  refine List.forall_mem_cons.mpr ⟨va_tabs rfl rfl (hts _ q447), ?_⟩
  refine List.forall_mem_cons.mpr ⟨va_tabs rfl rfl (hts _ q448), ?_⟩
  refine List.forall_mem_cons.mpr ⟨va_tabs rfl rfl (hts _ q450), ?_⟩
  refine List.forall_mem_cons.mpr ⟨va_tabs rfl rfl (hts _ q452), ?_⟩
  refine List.forall_mem_cons.mpr ⟨va_tabs rfl rfl (hts _ q453), ?_⟩
  refine List.forall_mem_cons.mpr ⟨va_tabs rfl rfl (hts _ q455), ?_⟩
  refine List.forall_mem_cons.mpr ⟨va_tabs rfl rfl (hts _ q456), ?_⟩
  refine List.forall_mem_cons.mpr ⟨va_tabs rfl rfl (hts _ q457), ?_⟩
  refine List.forall_mem_cons.mpr ⟨va_tabs rfl rfl (hts _ q458), ?_⟩
  refine List.forall_mem_cons.mpr ⟨va_tabs rfl rfl (hts _ q459), ?_⟩
  refine List.forall_mem_cons.mpr ⟨va_tabs rfl rfl (hts _ q460), ?_⟩
  refine List.forall_mem_cons.mpr ⟨va_tabs rfl rfl (hts _ q461), ?_⟩
  refine List.forall_mem_cons.mpr ⟨va_tabs rfl rfl (hts _ q462), ?_⟩
  refine List.forall_mem_cons.mpr ⟨va_tabs rfl rfl (hts _ q463), ?_⟩
  refine List.forall_mem_cons.mpr ⟨va_tabs rfl rfl (hts _ q464), ?_⟩
  refine List.forall_mem_cons.mpr ⟨va_tabs rfl rfl (hts _ q465), ?_⟩
  refine List.forall_mem_cons.mpr ⟨va_tabs rfl rfl (hts _ q517), ?_⟩
  refine List.forall_mem_cons.mpr ⟨va_tabs rfl rfl (hts _ q519), ?_⟩
  refine List.forall_mem_cons.mpr ⟨va_tabs rfl rfl (hts _ q521), ?_⟩
  refine List.forall_mem_cons.mpr ⟨va_tabs rfl rfl (hts _ q522), ?_⟩
  refine List.forall_mem_cons.mpr ⟨va_tabs rfl rfl (hts _ q523), ?_⟩
  refine List.forall_mem_cons.mpr ⟨va_tabs rfl rfl (hts _ q587), ?_⟩
  refine List.forall_mem_cons.mpr ⟨va_tabs rfl rfl (hts _ q589), ?_⟩
  refine List.forall_mem_cons.mpr ⟨va_tabs rfl rfl (hts _ q591), ?_⟩
  refine List.forall_mem_cons.mpr ⟨va_tabs rfl rfl (hts _ q593), ?_⟩
  refine List.forall_mem_cons.mpr ⟨va_tabs rfl rfl (hts _ q595), ?_⟩
  refine List.forall_mem_cons.mpr ⟨va_tabs rfl rfl (hts _ q745), ?_⟩
  refine List.forall_mem_cons.mpr ⟨va_tabs rfl rfl (hts _ q746), ?_⟩
  refine List.forall_mem_cons.mpr ⟨va_tabs rfl rfl (hts _ q899), ?_⟩
  refine List.forall_mem_cons.mpr ⟨va_tabs rfl rfl (hts _ q1003), ?_⟩
  refine List.forall_mem_cons.mpr ⟨va_tabs rfl rfl (hts _ q1005), ?_⟩
  refine List.forall_mem_cons.mpr ⟨va_tabs rfl rfl (hts _ q1068), ?_⟩
  refine List.forall_mem_cons.mpr ⟨va_tabs rfl rfl (hts _ q1070), ?_⟩
  refine List.forall_mem_cons.mpr ⟨va_tabs rfl rfl (hts _ q1072), ?_⟩
  refine List.forall_mem_cons.mpr ⟨va_tabs rfl rfl (hts _ q1073), ?_⟩
  exact fun _ h => by cases h
theorem zNm_at {s : State} {b : Nat} (hts : ∀ w ∈ lw_tbl, w.before #[Value.ref b] s = true) : ∀ q ∈ zNm, va_Nw (.methodLinkNest q.1 q.2.1 q.2.2.1 q.2.2.2) s := by
  unfold zNm
  refine List.forall_mem_cons.mpr ⟨va_tabs rfl rfl (hts _ q138), ?_⟩
  refine List.forall_mem_cons.mpr ⟨va_tabs rfl rfl (hts _ q171), ?_⟩
  refine List.forall_mem_cons.mpr ⟨va_tabs rfl rfl (hts _ q562), ?_⟩
  refine List.forall_mem_cons.mpr ⟨va_tabs rfl rfl (hts _ q661), ?_⟩
  refine List.forall_mem_cons.mpr ⟨va_tabs rfl rfl (hts _ q738), ?_⟩
  refine List.forall_mem_cons.mpr ⟨va_tabs rfl rfl (hts _ q1109), ?_⟩
  refine List.forall_mem_cons.mpr ⟨va_tabs rfl rfl (hts _ q1118), ?_⟩
  refine List.forall_mem_cons.mpr ⟨va_tabs rfl rfl (hts _ q1124), ?_⟩
  refine List.forall_mem_cons.mpr ⟨va_tabs rfl rfl (hts _ q1125), ?_⟩
  exact fun _ h => by cases h
theorem zAo_at {s : State} {b : Nat} (hts : ∀ w ∈ lw_tbl, w.before #[Value.ref b] s = true) : ∀ C ∈ zAo, va_AO C s := by
  unfold zAo
  refine List.forall_mem_cons.mpr ⟨va_AO.of (hts _ q127), ?_⟩
  refine List.forall_mem_cons.mpr ⟨va_AO.of (hts _ q129), ?_⟩
  refine List.forall_mem_cons.mpr ⟨va_AO.of (hts _ q131), ?_⟩
  refine List.forall_mem_cons.mpr ⟨va_AO.of (hts _ q133), ?_⟩
  refine List.forall_mem_cons.mpr ⟨va_AO.of (hts _ q135), ?_⟩
  refine List.forall_mem_cons.mpr ⟨va_AO.of (hts _ q743), ?_⟩
  refine List.forall_mem_cons.mpr ⟨va_AO.of (hts _ q1226), ?_⟩
  exact fun _ h => by cases h
theorem zAa_at {s : State} {b : Nat} (hts : ∀ w ∈ lw_tbl, w.before #[Value.ref b] s = true) : ∀ t ∈ zAa, zAy t s := by
  unfold zAa
  refine List.forall_mem_cons.mpr ⟨(show (Cond.arrayOver (.array .int)).before #[] s = true from hts _ q1222), ?_⟩
  refine List.forall_mem_cons.mpr ⟨(show (Cond.arrayOver (.array (.array .int))).before #[] s = true from hts _ q1224), ?_⟩
  refine List.forall_mem_cons.mpr ⟨(show (Cond.arrayOver (.array .boolean)).before #[] s = true from hts _ q1246), ?_⟩
  exact fun _ h => by cases h
theorem zSr_at {s : State} {b : Nat} {adK : Nat → Nat} (hts : ∀ w ∈ lw_tbl, w.before #[Value.ref b] s = true) (he : ∀ i : Nat, i < 27 → (zTm i).eval #[Value.ref b] s none [] s = some (.ref (adK i))) : ∀ (k : Nat) (q : String × Nat × String), zStr[k]? = some q → vk_R q.1 q.2.1 q.2.2 (adK k) s := by
  intro k q hq
  have hk : k < 27 := (List.getElem?_eq_some_iff.mp hq).1
  have h1 := he k hk
  rcases (show k = 0 ∨ k = 1 ∨ k = 2 ∨ k = 3 ∨ k = 4 ∨ k = 5 ∨ k = 6 ∨ k = 7 ∨ k = 8 ∨ k = 9 ∨ k = 10 ∨ k = 11 ∨ k = 12 ∨ k = 13 ∨ k = 14 ∨ k = 15 ∨ k = 16 ∨ k = 17 ∨ k = 18 ∨ k = 19 ∨ k = 20 ∨ k = 21 ∨ k = 22 ∨ k = 23 ∨ k = 24 ∨ k = 25 ∨ k = 26 by omega) with rfl | rfl | rfl | rfl | rfl | rfl | rfl | rfl | rfl | rfl | rfl | rfl | rfl | rfl | rfl | rfl | rfl | rfl | rfl | rfl | rfl | rfl | rfl | rfl | rfl | rfl | rfl
  · cases hq; exact vk_R.of (hts _ q760) h1
  · cases hq; exact vk_R.of (hts _ q919) h1
  · cases hq; exact vk_R.of (hts _ q976) h1
  · cases hq; exact vk_R.of (hts _ q989) h1
  · cases hq; exact vk_R.of (hts _ q994) h1
  · cases hq; exact vk_R.of (hts _ q995) h1
  · cases hq; exact vk_R.of (hts _ q1227) h1
  · cases hq; exact vk_R.of (hts _ q1228) h1
  · cases hq; exact vk_R.of (hts _ q1229) h1
  · cases hq; exact vk_R.of (hts _ q1230) h1
  · cases hq; exact vk_R.of (hts _ q1231) h1
  · cases hq; exact vk_R.of (hts _ q1232) h1
  · cases hq; exact vk_R.of (hts _ q1233) h1
  · cases hq; exact vk_R.of (hts _ q1234) h1
  · cases hq; exact vk_R.of (hts _ q1235) h1
  · cases hq; exact vk_R.of (hts _ q1236) h1
  · cases hq; exact vk_R.of (hts _ q1237) h1
  · cases hq; exact vk_R.of (hts _ q1238) h1
  · cases hq; exact vk_R.of (hts _ q1239) h1
  · cases hq; exact vk_R.of (hts _ q1240) h1
  · cases hq; exact vk_R.of (hts _ q1241) h1
  · cases hq; exact vk_R.of (hts _ q1242) h1
  · cases hq; exact vk_R.of (hts _ q1243) h1
  · cases hq; exact vk_R.of (hts _ q1244) h1
  · cases hq; exact vk_R.of (hts _ q1691) h1
  · cases hq; exact vk_R.of (hts _ q1692) h1
  · cases hq; exact vk_R.of (hts _ q1693) h1
set_option maxHeartbeats 4000000 in
theorem zSt_in : Cond.eq (.static "java/lang/String" "COMPACT_STRINGS" "Z") (.int 1) ∈ zFl ∧ Cond.isRef (.static "jdk/internal/util/Preconditions" "SIOOBE_FORMATTER" "Ljava/util/function/BiFunction;") ∈ zFl ∧ Cond.isRef (.static "java/lang/Throwable" "UNASSIGNED_STACK" "[Ljava/lang/StackTraceElement;") ∈ zFl ∧ Cond.isRef (.static "java/lang/Throwable" "SUPPRESSED_SENTINEL" "Ljava/util/List;") ∈ zFl := by decide +kernel
theorem zSt_at {s : State} {b : Nat} {K : zK} (hts : ∀ w ∈ lw_tbl, w.before #[Value.ref b] s = true) (hs : ∀ c ∈ zFl, c.before #[Value.ref b] s = true) (hA : ∀ a : Nat, a < s.heap.size → ¬ zA K a) (hS : vk_S 27 zLen zByt K.2.2.1 K.2.2.2.1 (zA K) s s.heap) : zSt K s s.heap := by
  obtain ⟨h1, h2, h3, h4⟩ := zSt_in
  exact ⟨hS, va_Zof (hts _ q774) (hts _ (lw_all_tbl q107)) (va_eqt (hs _ h1)) hA, va_Zqof (hts _ q813) (hts _ (lw_all_tbl q110)) (hs _ h2) hA, va_Zqof (hts _ q874) (hts _ (lw_all_tbl q112)) (hs _ h3) hA, va_Zqof (hts _ q876) (hts _ (lw_all_tbl q112)) (hs _ h4) hA⟩
/-- the law out of what its shallow function answers -/
theorem zStart {p : Program} {e : Env} {s : State} {m : MethodId} {below : List Frame} {meth : Method} {c : Code} (l : Launch) {b L : Nat} {xs : Nat → Int32} {u' : zM} (hF : f_L_law (zU0 L xs) = some (1, u')) (hC : mC u' ≤ 601024) (hSl : mS u' ≤ 7293034)
    (h1 : p.tables.exec = Jvm.exec) (h2 : c.code = code) (h3 : meth.sig.returnType = ret) (h4 : c.maxLocals = 4) (h5 : s.vm.findClass R_law = some m.cls) (h6 : ∀ w ∈ lw_tbl, w.before #[Value.ref b] s = true) (h7 : va_X b L xs s s.heap) (h8 : b < s.heap.size) (h9 : meth.locks = false) (h10 : (Jvm.Cond.and given_1 narrow_1).before #[Value.ref b] s = true) :
    W p l e room_1 s m #[Value.ref b] below meth c s.heap [] 0 0 (fun t => ∃ o, t.status = .running ∧ Ended t below o ∧ o = .returned (some (.int 1)) ∧ Framed s o t [] 601024 7293034) (entryFrame m ([Value.ref b] : List Value).toArray 4) := by
  have hs : ∀ c ∈ zFl, c.before #[Value.ref b] s = true := flat_of_before _ h10
  have hts : ∀ w ∈ lw_all, w.before #[Value.ref b] s = true := fun w h => h6 w (lw_all_tbl h)
  obtain ⟨D, hD⟩ := zKn hts
  obtain ⟨adK, adV, hS, hev⟩ := zSof (A := fun q => s.heap.size ≤ q) hs (fun a h => by omega)
  have hK : ∃ K : zK, K = (D, s.heap.size, adK, adV, b) := ⟨_, rfl⟩
  obtain ⟨K, hK⟩ := hK
  have k0 : K.2.1 = s.heap.size := by rw [hK]
  have k1 : K.2.2.2.2 = b := by rw [hK]
  have hKU : zKU K s := ⟨by rw [hK]; exact hD, zNf_at h6, zNm_at h6, va_tabs rfl rfl (h6 _ q849), zAo_at h6, zAa_at h6, by rw [hK]; exact zSr_at h6 hev⟩
  have hA : ∀ a : Nat, a < s.heap.size → ¬ zA K a := fun a h1 h2 => by
    have h2' : K.2.1 ≤ a := h2
    omega
  have hzS : zSt K s s.heap := zSt_at h6 hs hA (by rw [hK]; exact hS)
  have hCz : Cz K s (zU0 L xs) s.heap := by
    refine ⟨fun n a1 a2 => absurd a2 (by have := zU0_kd a1; omega), fun n n' a1 a2 a3 => absurd a3 (by have := zU0_kd a1; omega), ?_, hzS, by omega, ?_⟩
    · rw [k0]; rfl
    · rw [k1]
      have e1 : mN (zU0 L xs) (nm 30 0) = L := rfl
      have e2 : mI (zU0 L xs) (nm 30 0) = xs := by
        funext j
        simp [mI, zU0]
      rw [e1, e2]
      exact h7
  have hal0 : al (zU0 L xs) (nm 30 0) := by rw [al_nm (by decide)]; exact (by decide : (0 : Nat) < 1)
  obtain ⟨-, go⟩ := g_L_law (c0 := 0) (s0 := 0) (tbv := c.exceptionTable.toList) (zU0 L xs) 1 u' hF zU0_wf ⟨fun q hq => by
    rw [List.mem_singleton.mp hq]
    exact ⟨okV_ref.mpr hal0, rfl⟩, by decide⟩ okS_nil
  have hl := lv_entry [Value.ref b] (n := 4) (Nat.le_of_ble_eq_true rfl)
  have hL : lzHas K (zU0 L xs) ((lg_sl [Value.ref b] ++ List.replicate (4 - (lg_sl [Value.ref b]).length) Slot.unset).toArray) 4 [(0, .ref (nm 30 0))] [] := by
    show lv_has _ 4 [(0, cv K (zU0 L xs) (.ref (nm 30 0)))]
    rw [show cv K (zU0 L xs) (.ref (nm 30 0)) = .ref b from congrArg Value.ref k1]
    exact hl
  have k := go K p l e room_1 s m #[Value.ref b] below meth c s.heap [] _ ⟨h1, h2, h3, h4, h5, hts, h9, (fun h => by cases h), (by decide), (by decide), hKU, rfl⟩ (Nat.le_refl _) (Nat.le_refl _) (by show mC u' - 0 ≤ 601024; omega) (by show mS u' - 0 ≤ 7293034; omega) hCz va_S.rf hL
  rw [lg_entry_eq]
  intro T hT X
  obtain ⟨t, a1, o, b1, b2, b3, LL, b4, b5⟩ := k T hT X
  have ho : o = .returned (some (.int 1)) := b3.1
  refine ⟨t, a1, o, b1, b2, ho, ?_⟩
  subst ho
  refine ⟨⟨_, rfl⟩, b4.2.1, b4.2.2.weaken (fun q hq hlt => ?_) (by omega) (by omega)⟩
  have := b5 q hq
  exact absurd hlt (Nat.not_lt.mpr (by rw [← k0]; exact this))
