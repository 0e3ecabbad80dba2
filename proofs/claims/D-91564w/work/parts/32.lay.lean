set_option maxRecDepth 100000
/-! ===== THE PLAIN LAW: the memory after the two constructors ===== -/
/-- nothing but what the sites S make has changed -/
def Fs (S : List Nat) (v w : zM) : Prop := (∀ n, nS n ∉ S → (∀ k, mR w n k = mR v n k ∧ mI w n k = mI v n k ∧ mL w n k = mL v n k) ∧ mN w n = mN v n) ∧ ∀ s, s ∉ S → mK w s = mK v s
/-- whole numbers and longs: as they were, or 0 -/
def Fo (v w : zM) : Prop := ∀ n k, (mI w n k = mI v n k ∨ mI w n k = 0) ∧ (mL w n k = mL v n k ∨ mL w n k = 0)
theorem Fs.rf {S : List Nat} {v : zM} : Fs S v v := ⟨fun _ _ => ⟨fun _ => ⟨rfl, rfl, rfl⟩, rfl⟩, fun _ _ => rfl⟩
theorem Fs.tr {S : List Nat} {u v w : zM} (h : Fs S u v) (g : Fs S v w) : Fs S u w := ⟨fun n hn => ⟨fun k => ⟨((g.1 n hn).1 k).1.trans ((h.1 n hn).1 k).1, ((g.1 n hn).1 k).2.1.trans ((h.1 n hn).1 k).2.1, ((g.1 n hn).1 k).2.2.trans ((h.1 n hn).1 k).2.2⟩, (g.1 n hn).2.trans (h.1 n hn).2⟩, fun s hs => (g.2 s hs).trans (h.2 s hs)⟩
theorem Fs.mono {S S' : List Nat} {u v : zM} (h : Fs S u v) (hs : ∀ s ∈ S, s ∈ S') : Fs S' u v := ⟨fun n hn => h.1 n fun q => hn (hs _ q), fun s hn => h.2 s fun q => hn (hs _ q)⟩
theorem Fo.rf {v : zM} : Fo v v := fun _ _ => ⟨Or.inl rfl, Or.inl rfl⟩
theorem Fo.tr {u v w : zM} (h : Fo u v) (g : Fo v w) : Fo u w := fun n k => by
  obtain ⟨h1, h2⟩ := h n k
  obtain ⟨g1, g2⟩ := g n k
  refine ⟨?_, ?_⟩
  · rcases g1 with e | e
    · rw [e]; exact h1
    · exact Or.inr e
  · rcases g2 with e | e
    · rw [e]; exact h2
    · exact Or.inr e
theorem nS_nx {u : zM} {s : Nat} (hs : s < 8192) : nS (nx u s) = s := nS_nm hs
theorem Fs_mkc {u : zM} {s len sl : Nat} (hs : s < 8192) : Fs [s] u (mkc u s len sl) := by
  refine ⟨fun n hn => ?_, fun t ht => ?_⟩
  · have hne : n ≠ nx u s := fun e => hn (by rw [e, nS_nx hs]; exact List.mem_singleton.mpr rfl)
    exact ⟨fun k => ⟨if_neg hne, if_neg hne, if_neg hne⟩, if_neg hne⟩
  · rw [mK_mkc, if_neg]
    exact fun e => ht (List.mem_singleton.mpr e)
theorem Fo_mkc {u : zM} {s len sl : Nat} : Fo u (mkc u s len sl) := by
  intro n k
  by_cases h : n = nx u s
  · exact ⟨Or.inr (if_pos h), Or.inr (if_pos h)⟩
  · exact ⟨Or.inl (if_neg h), Or.inl (if_neg h)⟩
theorem Fs_sR {u : zM} {a k : Nat} {r : Option Nat} : Fs [nS a] u (sR u a k r) := by
  refine ⟨fun n hn => ⟨fun j => ⟨?_, rfl, rfl⟩, rfl⟩, fun _ _ => rfl⟩
  rw [mR_sR, if_neg]
  exact fun e => hn (List.mem_singleton.mpr (by rw [e.1]))
theorem Fo_sR {u : zM} {a k : Nat} {r : Option Nat} : Fo u (sR u a k r) := fun _ _ => ⟨Or.inl rfl, Or.inl rfl⟩
/-- rows made in a loop -/
theorem g1_loop {s2 m a : Nat} (h2 : s2 < 8192) (ha : nS a ≠ s2) : ∀ (i : Nat) (v : zM), Fs [nS a, s2] v (gLoop (g1 s2 m) a i v) ∧ Fo v (gLoop (g1 s2 m) a i v) ∧ mK (gLoop (g1 s2 m) a i v) s2 = mK v s2 + i ∧ mK (gLoop (g1 s2 m) a i v) (nS a) = mK v (nS a) ∧ (∀ j, j < i → mR (gLoop (g1 s2 m) a i v) a j = some (nm s2 (mK v s2 + j)) ∧ mN (gLoop (g1 s2 m) a i v) (nm s2 (mK v s2 + j)) = m) ∧ (∀ j, i ≤ j → mR (gLoop (g1 s2 m) a i v) a j = mR v a j) ∧ (∀ n, nS n = nS a → n ≠ a → ∀ k, mR (gLoop (g1 s2 m) a i v) n k = mR v n k) ∧ (∀ n, nS n = nS a → mN (gLoop (g1 s2 m) a i v) n = mN v n) ∧ (∀ n, nS n = s2 → nK n < mK v s2 → mN (gLoop (g1 s2 m) a i v) n = mN v n) ∧ mC (gLoop (g1 s2 m) a i v) = mC v + i ∧ mS (gLoop (g1 s2 m) a i v) = mS v + i * m
  | 0, v => ⟨Fs.rf, Fo.rf, rfl, rfl, fun j h => absurd h (Nat.not_lt_zero _), fun _ _ => rfl, fun _ _ _ _ => rfl, fun _ _ => rfl, fun _ _ _ => rfl, rfl, by simp [gLoop]⟩
  | i + 1, v => by
    obtain ⟨q1, q2, q3, q4, q5, q6, q7, q8, q9, q10, q11⟩ := g1_loop (m := m) h2 ha i v
    generalize hw : gLoop (g1 s2 m) a i v = w at q1 q2 q3 q4 q5 q6 q7 q8 q9 q10 q11
    have e : gLoop (g1 s2 m) a (i + 1) v = sR (mkc w s2 m m) a i (some (nx w s2)) := by rw [← hw]; rfl
    have hx : nx w s2 = nm s2 (mK v s2 + i) := by unfold nx; rw [q3]
    have hax : a ≠ nx w s2 := fun z => ha (by rw [z, nS_nx h2])
    have hR : ∀ n k, n ≠ nx w s2 → mR (mkc w s2 m m) n k = mR w n k := fun n k h => if_neg h
    rw [e]
    refine ⟨q1.tr ((Fs_mkc h2).mono (by simp) |>.tr (Fs_sR.mono (by simp))), q2.tr (Fo_mkc.tr Fo_sR), ?_, ?_, fun j hj => ⟨?_, ?_⟩, fun j hj => ?_, fun n h1 h3 k => ?_, fun n h1 => ?_, fun n h1 h3 => ?_, ?_, ?_⟩
    · show mK (mkc w s2 m m) s2 = _
      rw [mK_mkc, if_pos rfl, q3]; omega
    · show mK (mkc w s2 m m) (nS a) = _
      rw [mK_mkc, if_neg ha, q4]
    · rw [mR_sR]
      by_cases hji : j = i
      · rw [if_pos ⟨rfl, hji⟩, hx, hji]
      · rw [if_neg (fun z => hji z.2), hR _ _ hax]
        exact (q5 j (by omega)).1
    · show mN (mkc w s2 m m) _ = m
      rw [mN_mkc]
      by_cases hji : j = i
      · rw [if_pos (by rw [hx, hji])]
      · rw [if_neg]
        · exact (q5 j (by omega)).2
        · rw [hx]
          intro z
          have := ((nm_eq h2 h2).mp z).2
          omega
    · rw [mR_sR, if_neg (fun z => by omega), hR _ _ hax]
      exact q6 j (by omega)
    · rw [mR_sR, if_neg (fun z => h3 z.1), hR _ _ (fun z => ha (by rw [← h1, z, nS_nx h2]))]
      exact q7 n h1 h3 k
    · show mN (mkc w s2 m m) n = _
      rw [mN_mkc, if_neg (fun z => ha (by rw [← h1, z, nS_nx h2]))]
      exact q8 n h1
    · show mN (mkc w s2 m m) n = _
      rw [mN_mkc, if_neg]
      · exact q9 n h1 h3
      · intro z
        rw [z, hx, nK_nm h2] at h3
        omega
    · show mC w + 1 = _
      rw [q10]; omega
    · show mS w + m = _
      rw [q11, Nat.succ_mul]; omega
/-- an array of n rows of m -/
theorem g2_made {s s2 n m : Nat} (h1 : s < 8192) (h2 : s2 < 8192) (h12 : s ≠ s2) (u : zM) : (gMk s n (g1 s2 m) u).1 = nx u s ∧ Fs [s, s2] u (gMk s n (g1 s2 m) u).2 ∧ Fo u (gMk s n (g1 s2 m) u).2 ∧ mK (gMk s n (g1 s2 m) u).2 s = mK u s + 1 ∧ mK (gMk s n (g1 s2 m) u).2 s2 = mK u s2 + n ∧ (∀ j, j < n → mR (gMk s n (g1 s2 m) u).2 (nx u s) j = some (nm s2 (mK u s2 + j)) ∧ mN (gMk s n (g1 s2 m) u).2 (nm s2 (mK u s2 + j)) = m) ∧ mN (gMk s n (g1 s2 m) u).2 (nx u s) = n ∧ (∀ a, nS a = s → a ≠ nx u s → (∀ k, mR (gMk s n (g1 s2 m) u).2 a k = mR u a k) ∧ mN (gMk s n (g1 s2 m) u).2 a = mN u a) ∧ (∀ a, nS a = s2 → nK a < mK u s2 → mN (gMk s n (g1 s2 m) u).2 a = mN u a) ∧ mC (gMk s n (g1 s2 m) u).2 = mC u + 1 + n ∧ mS (gMk s n (g1 s2 m) u).2 = mS u + n + n * m := by
  have hS : nS (nx u s) = s := nS_nx h1
  obtain ⟨q1, q2, q3, q4, q5, q6, q7, q8, q9, q10, q11⟩ := g1_loop (m := m) (a := nx u s) h2 (by rw [hS]; exact h12) n (mkc u s n n)
  rw [hS] at q1 q4
  have e : (gMk s n (g1 s2 m) u).2 = gLoop (g1 s2 m) (nx u s) n (mkc u s n n) := rfl
  rw [e]
  have k2 : mK (mkc u s n n) s2 = mK u s2 := by rw [mK_mkc, if_neg (Ne.symm h12)]
  rw [k2] at q3 q5 q9
  refine ⟨rfl, ((Fs_mkc h1).mono (by simp)).tr q1, Fo_mkc.tr q2, ?_, q3, q5, ?_, fun a h3 h4 => ⟨fun k => ?_, ?_⟩, fun a h3 h4 => ?_, q10, q11⟩
  · rw [q4, mK_mkc, if_pos rfl]
  · rw [q8 _ rfl, mN_mkc, if_pos rfl]
  · rw [q7 a (h3.trans hS.symm) h4 k]
    exact if_neg h4
  · rw [q8 a (h3.trans hS.symm), mN_mkc, if_neg h4]
  · rw [q9 a h3 h4, mN_mkc, if_neg]
    intro z
    rw [z, hS] at h3
    exact h12 h3
/-- the rows of the codes -/
theorem g3_loop {s2 s3 m2 m3 a : Nat} (h2 : s2 < 8192) (h3 : s3 < 8192) (h23 : s2 ≠ s3) (ha2 : nS a ≠ s2) (ha3 : nS a ≠ s3) : ∀ (i : Nat) (v : zM), mK v s2 = 0 → mK v s3 = 0 → Fs [nS a, s2, s3] v (gLoop (gMk s2 m2 (g1 s3 m3)) a i v) ∧ Fo v (gLoop (gMk s2 m2 (g1 s3 m3)) a i v) ∧ mK (gLoop (gMk s2 m2 (g1 s3 m3)) a i v) s2 = i ∧ mK (gLoop (gMk s2 m2 (g1 s3 m3)) a i v) s3 = m2 * i ∧ mK (gLoop (gMk s2 m2 (g1 s3 m3)) a i v) (nS a) = mK v (nS a) ∧ (∀ j, j < i → mR (gLoop (gMk s2 m2 (g1 s3 m3)) a i v) a j = some (nm s2 j) ∧ mN (gLoop (gMk s2 m2 (g1 s3 m3)) a i v) (nm s2 j) = m2 ∧ ∀ c, c < m2 → mR (gLoop (gMk s2 m2 (g1 s3 m3)) a i v) (nm s2 j) c = some (nm s3 (m2 * j + c)) ∧ mN (gLoop (gMk s2 m2 (g1 s3 m3)) a i v) (nm s3 (m2 * j + c)) = m3) ∧ (∀ n, nS n = nS a → mN (gLoop (gMk s2 m2 (g1 s3 m3)) a i v) n = mN v n) ∧ mC (gLoop (gMk s2 m2 (g1 s3 m3)) a i v) = mC v + i * (1 + m2) ∧ mS (gLoop (gMk s2 m2 (g1 s3 m3)) a i v) = mS v + i * (m2 + m2 * m3)
  | 0, v, k2, k3 => ⟨Fs.rf, Fo.rf, k2, k3, rfl, fun j h => absurd h (Nat.not_lt_zero _), fun _ _ => rfl, by simp [gLoop], by simp [gLoop]⟩
  | i + 1, v, k2, k3 => by
    obtain ⟨q1, q2, q3, q4, q5, q6, q7, q8, q9⟩ := g3_loop (m2 := m2) (m3 := m3) h2 h3 h23 ha2 ha3 i v k2 k3
    generalize hw : gLoop (gMk s2 m2 (g1 s3 m3)) a i v = w at q1 q2 q3 q4 q5 q6 q7 q8 q9
    obtain ⟨p1, p2, p3, p4, p5, p6, p7, p8, p9, p10, p11⟩ := g2_made (n := m2) (m := m3) h2 h3 h23 w
    have e : gLoop (gMk s2 m2 (g1 s3 m3)) a (i + 1) v = sR (gMk s2 m2 (g1 s3 m3) w).2 a i (some (gMk s2 m2 (g1 s3 m3) w).1) := by rw [← hw]; rfl
    generalize hx : (gMk s2 m2 (g1 s3 m3) w).2 = x at p2 p3 p4 p5 p6 p7 p8 p9 p10 p11 e
    rw [p1] at e
    have hn : nx w s2 = nm s2 i := by unfold nx; rw [q3]
    rw [hn] at e p6 p7 p8
    rw [q4] at p5 p6 p9
    have haS : nS a ∉ [s2, s3] := by simp; exact ⟨ha2, ha3⟩
    have hF := p2.1 a haS
    rw [e]
    refine ⟨q1.tr ((p2.mono (by simp)).tr (Fs_sR.mono (by simp))), q2.tr (p3.tr Fo_sR), ?_, ?_, ?_, fun j hj => ⟨?_, ?_, fun c hc => ?_⟩, fun n h1 => ?_, ?_, ?_⟩
    · show mK x s2 = _
      rw [p4, q3]
    · show mK x s3 = _
      rw [p5, Nat.mul_succ]
    · show mK x (nS a) = _
      rw [p2.2 _ haS, q5]
    · rw [mR_sR]
      by_cases hji : j = i
      · rw [if_pos ⟨rfl, hji⟩, hji]
      · rw [if_neg (fun z => hji z.2), (hF.1 j).1]
        exact (q6 j (by omega)).1
    · show mN x _ = m2
      by_cases hji : j = i
      · rw [hji]; exact p7
      · rw [(p8 (nm s2 j) (nS_nm h2) (fun z => hji ((nm_eq h2 h2).mp z).2)).2]
        exact (q6 j (by omega)).2.1
    · have hne : ¬ (nm s2 j = a ∧ c = i) := fun z => ha2 (by rw [← z.1, nS_nm h2])
      rw [mR_sR, if_neg hne]
      show mR x _ _ = _ ∧ mN x _ = _
      by_cases hji : j = i
      · rw [hji]; exact p6 c hc
      · obtain ⟨-, -, r⟩ := q6 j (by omega)
        obtain ⟨r1, r2⟩ := r c hc
        refine ⟨((p8 (nm s2 j) (nS_nm h2) (fun z => hji ((nm_eq h2 h2).mp z).2)).1 c).trans r1, (p9 _ (nS_nm h3) ?_).trans r2⟩
        rw [nK_nm h3]
        have : m2 * j + m2 ≤ m2 * i := by
          rw [← Nat.mul_succ]; exact Nat.mul_le_mul_left _ (by omega)
        omega
    · show mN x n = _
      rw [(p2.1 n (by rw [h1]; exact haS)).2]
      exact q7 n h1
    · show mC x = _
      rw [p10, q8, Nat.succ_mul]; omega
    · show mS x = _
      rw [p11, q9, Nat.succ_mul]; omega
/-- what is known while the constructors run: ks the sites not used yet, lr the references set, ln lengths, lz arrays of references that are all null, lw arrays of rows, b3 whether the codes are made -/
def Fc (L : Nat) (xs : Nat → Int32) (u : zM) (ks : List Nat) (lr : List (Nat × Nat × Nat)) (ln : List (Nat × Nat)) (lz : List Nat) (lw : List (Nat × Nat × Nat × Nat)) (b3 : Bool) (nc ns : Nat) : Prop :=
  (∀ s ∈ ks, mK u s = 0) ∧ (∀ q ∈ lr, mR u q.1 q.2.1 = some q.2.2) ∧ (∀ q ∈ ln, mN u q.1 = q.2) ∧ (∀ a ∈ lz, ∀ k, mR u a k = none) ∧ (∀ q ∈ lw, ∀ i, i < q.2.2.1 → mR u q.1 i = some (nm q.2.1 i) ∧ mN u (nm q.2.1 i) = q.2.2.2) ∧ (b3 = true → ∀ s c, s < 9 → c < 5 → mR u (nm 119 s) c = some (nm 1773 (5 * s + c)) ∧ mN u (nm 1773 (5 * s + c)) = 840) ∧ (∀ n k, nS n ≠ 28 → nS n ≠ 30 → mI u n k = 0) ∧ (∀ n k, mL u n k = 0) ∧ (mN u (nm 30 0) = L ∧ ∀ j, mI u (nm 30 0) j = xs j) ∧ (∀ i, i < 27 → mN u (nm 28 i) = zLen.getD i 0 ∧ ∀ j, mI u (nm 28 i) j = (zByt.getD i []).getD j 0) ∧ mC u = nc ∧ mS u = ns
/-- the sites that are taken -/
def Fc_ok (s : Nat) (ks : List Nat) (lr : List (Nat × Nat × Nat)) (ln : List (Nat × Nat)) (lz : List Nat) (lw : List (Nat × Nat × Nat × Nat)) : Bool :=
  decide (s < 8192) && decide (s ≠ 28) && decide (s ≠ 30) && decide (s ≠ 119) && decide (s ≠ 1773) && !ks.contains s && lr.all (fun q => q.1 % 8192 != s) && ln.all (fun q => q.1 % 8192 != s) && lz.all (fun a => a % 8192 != s) && lw.all (fun q => q.1 % 8192 != s && q.2.1 != s && decide (q.2.1 < 8192))
theorem Fc.frame {L : Nat} {xs : Nat → Int32} {u v : zM} {S : List Nat} {ks ks' : List Nat} {lr : List (Nat × Nat × Nat)} {ln : List (Nat × Nat)} {lz : List Nat} {lw : List (Nat × Nat × Nat × Nat)} {b3 : Bool} {nc ns nc' ns' : Nat} (h : Fc L xs u ks lr ln lz lw b3 nc ns) (hF : Fs S u v) (hO : Fo u v)
    (h28 : 28 ∉ S) (h30 : 30 ∉ S) (h119 : b3 = true → 119 ∉ S ∧ 1773 ∉ S) (hks : ∀ s ∈ ks', s ∈ ks ∧ s ∉ S) (hlr : ∀ q ∈ lr, nS q.1 ∉ S) (hln : ∀ q ∈ ln, nS q.1 ∉ S) (hlz : ∀ a ∈ lz, nS a ∉ S) (hlw : ∀ q ∈ lw, nS q.1 ∉ S ∧ q.2.1 ∉ S ∧ q.2.1 < 8192) (hc : mC v = nc') (hs : mS v = ns') : Fc L xs v ks' lr ln lz lw b3 nc' ns' := by
  obtain ⟨f1, f2, f3, f4, f5, f6, f7, f8, f9, f10, -, -⟩ := h
  refine ⟨fun s hs => (hF.2 s (hks s hs).2).trans (f1 s (hks s hs).1), fun q hq => ((hF.1 _ (hlr q hq)).1 _).1.trans (f2 q hq), fun q hq => (hF.1 _ (hln q hq)).2.trans (f3 q hq), fun a ha k => ((hF.1 _ (hlz a ha)).1 k).1.trans (f4 a ha k), fun q hq i hi => ⟨((hF.1 _ (hlw q hq).1).1 i).1.trans (f5 q hq i hi).1, (hF.1 _ (by rw [nS_nm (hlw q hq).2.2]; exact (hlw q hq).2.1)).2.trans (f5 q hq i hi).2⟩, fun hb s c h1 h2 => ⟨((hF.1 _ (by rw [nS_nm (by decide)]; exact (h119 hb).1)).1 c).1.trans (f6 hb s c h1 h2).1, (hF.1 _ (by rw [nS_nm (by decide)]; exact (h119 hb).2)).2.trans (f6 hb s c h1 h2).2⟩, fun n k h1 h2 => ?_, fun n k => ?_, ⟨(hF.1 _ (by rw [nS_nm (by decide)]; exact h30)).2.trans f9.1, fun j => ((hF.1 _ (by rw [nS_nm (by decide)]; exact h30)).1 j).2.1.trans (f9.2 j)⟩, fun i hi => ⟨(hF.1 _ (by rw [nS_nm (by decide)]; exact h28)).2.trans (f10 i hi).1, fun j => ((hF.1 _ (by rw [nS_nm (by decide)]; exact h28)).1 j).2.1.trans ((f10 i hi).2 j)⟩, hc, hs⟩
  · rcases (hO n k).1 with e | e
    · rw [e]; exact f7 n k h1 h2
    · exact e
  · rcases (hO n k).2 with e | e
    · rw [e]; exact f8 n k
    · exact e
/-- an outcome that is there, and what holds of it -/
def Ini {β : Type} (o : Option (β × zM)) (P : β → zM → Prop) : Prop := ∃ b u', o = some (b, u') ∧ P b u'
section IN
variable {β : Type} {L : Nat} {xs : Nat → Int32} {u : zM} {ks : List Nat} {lr : List (Nat × Nat × Nat)} {ln : List (Nat × Nat)} {lz : List Nat} {lw : List (Nat × Nat × Nat × Nat)} {b3 : Bool} {nc ns : Nat} {P : β → zM → Prop}
theorem Fc_ok_spec {s : Nat} (h : Fc_ok s ks lr ln lz lw = true) : s < 8192 ∧ s ≠ 28 ∧ s ≠ 30 ∧ s ≠ 119 ∧ s ≠ 1773 ∧ s ∉ ks ∧ (∀ q ∈ lr, nS q.1 ≠ s) ∧ (∀ q ∈ ln, nS q.1 ≠ s) ∧ (∀ a ∈ lz, nS a ≠ s) ∧ ∀ q ∈ lw, nS q.1 ≠ s ∧ q.2.1 ≠ s ∧ q.2.1 < 8192 := by
  unfold Fc_ok at h
  simp only [Bool.and_eq_true, decide_eq_true_eq, Bool.not_eq_true', List.all_eq_true, bne_iff_ne, ne_eq] at h
  obtain ⟨⟨⟨⟨⟨⟨⟨⟨⟨h1, h2⟩, h3⟩, h4⟩, h5⟩, h6⟩, h7⟩, h8⟩, h9⟩, h10⟩ := h
  refine ⟨h1, h2, h3, h4, h5, ?_, h7, h8, h9, fun q hq => ⟨(h10 q hq).1.1, (h10 q hq).1.2, (h10 q hq).2⟩⟩
  intro hm
  have := List.contains_iff_mem.mpr hm
  rw [h6] at this
  cases this
/-- a cell made at the site s -/
theorem Fc_make {s len sl : Nat} (h : Fc L xs u (s :: ks) lr ln lz lw b3 nc ns) (ok : Fc_ok s ks lr ln lz lw = true) : nx u s = s ∧ Fc L xs (mkc u s len sl) ks lr ((s, len) :: ln) (s :: lz) lw b3 (nc + 1) (ns + sl) := by
  obtain ⟨h1, h2, h3, h4, h5, h6, h7, h8, h9, h10⟩ := Fc_ok_spec ok
  have hx : nx u s = s := by
    unfold nx
    rw [h.1 s List.mem_cons_self]
    unfold nm
    omega
  have hb := h.frame (ks' := ks) (Fs_mkc (len := len) (sl := sl) h1) Fo_mkc (by simpa using Ne.symm h2) (by simpa using Ne.symm h3) (fun _ => ⟨by simpa using Ne.symm h4, by simpa using Ne.symm h5⟩) (fun t ht => ⟨List.mem_cons_of_mem _ ht, by simp; exact fun e => h6 (e ▸ ht)⟩) (fun q hq => by simpa using h7 q hq) (fun q hq => by simpa using h8 q hq) (fun q hq => by simpa using h9 q hq) (fun q hq => ⟨by simpa using (h10 q hq).1, by simpa using (h10 q hq).2.1, (h10 q hq).2.2⟩) (nc' := nc + 1) (ns' := ns + sl) (by rw [mC_mkc, h.2.2.2.2.2.2.2.2.2.2.1]) (by rw [mS_mkc, h.2.2.2.2.2.2.2.2.2.2.2])
  obtain ⟨g1, g2, g3, g4, g5⟩ := hb
  refine ⟨hx, g1, g2, fun q hq => ?_, fun a ha k => ?_, g5⟩
  · rcases List.mem_cons.mp hq with e | e
    · rw [e]
      show mN _ s = len
      rw [mN_mkc, if_pos hx.symm]
    · exact g3 q e
  · rcases List.mem_cons.mp ha with e | e
    · rw [e]
      exact if_pos hx.symm
    · exact g4 a e k
theorem Fc.drop {a : Nat} (h : Fc L xs u ks lr ln (a :: lz) lw b3 nc ns) : Fc L xs u ks lr ln lz lw b3 nc ns := by
  obtain ⟨g1, g2, g3, g4, g5⟩ := h
  exact ⟨g1, g2, g3, fun a ha => g4 a (List.mem_cons_of_mem _ ha), g5⟩
/-- a reference set -/
theorem Fc_set {a k n : Nat} (h : Fc L xs u ks lr ln lz lw b3 nc ns) (ok : (lr.all (fun q => !(q.1 == a && q.2.1 == k)) && !lz.contains a && lw.all (fun q => q.1 != a) && (a % 8192 != 119)) = true) : Fc L xs (sR u a k (some n)) ks ((a, k, n) :: lr) ln lz lw b3 nc ns := by
  simp only [Bool.and_eq_true, List.all_eq_true, bne_iff_ne, ne_eq] at ok
  obtain ⟨⟨⟨o1, o2⟩, o3⟩, o4⟩ := ok
  obtain ⟨g1, g2, g3, g4, g5, g6, g7⟩ := h
  refine ⟨g1, fun q hq => ?_, g3, fun b hb j => ?_, fun q hq i hi => ⟨?_, (g5 q hq i hi).2⟩, fun hb s c h1 h2 => ⟨?_, (g6 hb s c h1 h2).2⟩, g7⟩
  · rcases List.mem_cons.mp hq with e | e
    · rw [e, mR_sR, if_pos ⟨rfl, rfl⟩]
    · rw [mR_sR, if_neg, g2 q e]
      intro z
      have := o1 q e
      simp [z.1, z.2] at this
  · rw [mR_sR, if_neg, g4 b hb j]
    intro z
    have := List.contains_iff_mem.mpr (z.1 ▸ hb)
    rw [this] at o2
    cases o2
  · rw [mR_sR, if_neg, (g5 q hq i hi).1]
    exact fun z => o3 q hq z.1
  · rw [mR_sR, if_neg, (g6 hb s c h1 h2).1]
    intro z
    have : a % 8192 = 119 := by rw [← z.1]; unfold nm; omega
    exact o4 this
theorem rM {s len sl : Nat} {G : Nat → zM → Option (β × zM)} (h : Fc L xs u (s :: ks) lr ln lz lw b3 nc ns) (ok : Fc_ok s ks lr ln lz lw = true) (g : ∀ u1, Fc L xs u1 ks lr ((s, len) :: ln) (s :: lz) lw b3 (nc + 1) (ns + sl) → Ini (G s u1) P) : Ini (lt (nx u s) fun n => lt (mkc u s len sl) (G n)) P := by
  obtain ⟨h1, h2⟩ := Fc_make (len := len) (sl := sl) h ok
  show Ini (G (nx u s) (mkc u s len sl)) P
  rw [h1]
  exact g _ h2
theorem rO {s len sl : Nat} {G : Nat → zM → Option (β × zM)} (h : Fc L xs u (s :: ks) lr ln lz lw b3 nc ns) (ok : Fc_ok s ks lr ln lz lw = true) (g : ∀ u1, Fc L xs u1 ks lr ((s, len) :: ln) lz lw b3 (nc + 1) (ns + sl) → Ini (G s u1) P) : Ini (lt (nx u s) fun n => lt (mkc u s len sl) (G n)) P := rM h ok fun u1 h1 => g u1 h1.drop
theorem rS {a k n : Nat} {G : zM → Option (β × zM)} (h : Fc L xs u ks lr ln lz lw b3 nc ns) (ok : (lr.all (fun q => !(q.1 == a && q.2.1 == k)) && !lz.contains a && lw.all (fun q => q.1 != a) && (a % 8192 != 119)) = true) (g : ∀ u1, Fc L xs u1 ks ((a, k, n) :: lr) ln lz lw b3 nc ns → Ini (G u1) P) : Ini (lt (sR u a k (some n)) G) P := g _ (Fc_set h ok)
theorem rG {y : Int32} {o : Option (β × zM)} (hy : ¬ (y < 0 ∨ 65536 < y.toNatClampNeg)) (g : Ini o P) : Ini (gs y o) P := by
  unfold gs
  rw [if_neg hy]
  exact g
theorem rX {i : Int32} {n len : Nat} {o : Option (β × zM)} (h : Fc L xs u ks lr ln lz lw b3 nc ns) (hm : (n, len) ∈ ln) (hi : ¬ (i < 0 ∨ len ≤ i.toNatClampNeg)) (g : Ini o P) : Ini (ix i (mN u n) o) P := by
  have : mN u n = len := h.2.2.1 (n, len) hm
  unfold ix
  rw [this, if_neg hi]
  exact g
theorem rB {α : Type} {o : Option (α × zM)} {F : α → zM → Option (β × zM)} (g : Ini o fun a u1 => Ini (F a u1) P) : Ini (bd o F) P := by
  obtain ⟨a, u1, h1, b, u2, h2, h3⟩ := g
  exact ⟨b, u2, by unfold bd; rw [h1]; exact h2, h3⟩
theorem rE {b : β} (h : P b u) : Ini (some (b, u)) P := ⟨b, u, rfl, h⟩
/-- an array of rows -/
theorem r2 {s s2 n m : Nat} {G : Nat → zM → Option (β × zM)} (h : Fc L xs u (s :: s2 :: ks) lr ln lz lw b3 nc ns) (ok : Fc_ok s (s2 :: ks) lr ln lz lw = true) (ok2 : Fc_ok s2 ks lr ln lz lw = true) (g : ∀ u1, mK u1 s2 = n → Fc L xs u1 ks lr ((s, n) :: ln) lz ((s, s2, n, m) :: lw) b3 (nc + 1 + n) (ns + n + n * m) → Ini (G s u1) P) : Ini (lt2 (gMk s n (g1 s2 m) u) G) P := by
  obtain ⟨h1, h2, h3, h4, h5, h6, h7, h8, h9, h10⟩ := Fc_ok_spec ok
  obtain ⟨l1, l2, l3, l4, l5, l6, l7, l8, l9, l10⟩ := Fc_ok_spec ok2
  have h12 : s ≠ s2 := fun e => h6 (e ▸ List.mem_cons_self)
  have k1 := h.1 s List.mem_cons_self
  have k2 := h.1 s2 (List.mem_cons_of_mem _ List.mem_cons_self)
  have hx : nx u s = s := by
    unfold nx
    rw [k1]
    unfold nm
    omega
  obtain ⟨p1, p2, p3, p4, p5, p6, p7, p8, p9, p10, p11⟩ := g2_made (n := n) (m := m) h1 l1 h12 u
  rw [k2] at p5 p6
  rw [hx] at p1 p6 p7
  have hb := h.frame (ks' := ks) (nc' := nc + 1 + n) (ns' := ns + n + n * m) p2 p3 (by simp; exact ⟨Ne.symm h2, Ne.symm l2⟩) (by simp; exact ⟨Ne.symm h3, Ne.symm l3⟩) (fun _ => ⟨by simp; exact ⟨Ne.symm h4, Ne.symm l4⟩, by simp; exact ⟨Ne.symm h5, Ne.symm l5⟩⟩) (fun t ht => ⟨List.mem_cons_of_mem _ (List.mem_cons_of_mem _ ht), by simp; exact ⟨fun e => h6 (e ▸ List.mem_cons_of_mem _ ht), fun e => l6 (e ▸ ht)⟩⟩) (fun q hq => by simp; exact ⟨h7 q hq, l7 q hq⟩) (fun q hq => by simp; exact ⟨h8 q hq, l8 q hq⟩) (fun q hq => by simp; exact ⟨h9 q hq, l9 q hq⟩) (fun q hq => ⟨by simp; exact ⟨(h10 q hq).1, (l10 q hq).1⟩, by simp; exact ⟨(h10 q hq).2.1, (l10 q hq).2.1⟩, (h10 q hq).2.2⟩) (by rw [p10, h.2.2.2.2.2.2.2.2.2.2.1]) (by rw [p11, h.2.2.2.2.2.2.2.2.2.2.2])
  show Ini (G (gMk s n (g1 s2 m) u).1 (gMk s n (g1 s2 m) u).2) P
  rw [p1]
  obtain ⟨q1, q2, q3, q4, q5, q6⟩ := hb
  refine g _ (by rw [p5]; omega) ⟨q1, q2, fun q hq => ?_, q4, fun q hq i hi => ?_, q6⟩
  · rcases List.mem_cons.mp hq with e | e
    · rw [e]; exact p7
    · exact q3 q e
  · rcases List.mem_cons.mp hq with e | e
    · rw [e] at hi ⊢
      have := p6 i hi
      rw [Nat.zero_add] at this
      exact this
    · exact q5 q e i hi
end IN
section IN
variable {β : Type} {L : Nat} {xs : Nat → Int32} {u : zM} {ks : List Nat} {lr : List (Nat × Nat × Nat)} {ln : List (Nat × Nat)} {lz : List Nat} {lw : List (Nat × Nat × Nat × Nat)} {nc ns : Nat} {P : β → zM → Prop}
/-- the codes -/
theorem r3 {N0 N1 N2 : Nat} (e0 : N0 = 9) (e1 : N1 = 5) (e2 : N2 = 840) {G : Nat → zM → Option (β × zM)} (h : Fc L xs u (24 :: 119 :: 1773 :: ks) lr ln lz lw false nc ns) (hks : ∀ s ∈ ks, s ∉ [24, 119, 1773]) (hlr : ∀ q ∈ lr, nS q.1 ∉ [24, 119, 1773]) (hln : ∀ q ∈ ln, nS q.1 ∉ [24, 119, 1773]) (hlz : ∀ a ∈ lz, nS a ∉ [24, 119, 1773]) (hlw : ∀ q ∈ lw, nS q.1 ∉ [24, 119, 1773] ∧ q.2.1 ∉ [24, 119, 1773] ∧ q.2.1 < 8192)
    (g : ∀ u1, Fc L xs u1 ks lr ((24, 9) :: ln) lz ((24, 119, 9, 5) :: lw) true (nc + 55) (ns + 37854) → Ini (G 24 u1) P) : Ini (lt2 (gMk 24 N0 (gMk 119 N1 (g1 1773 N2)) u) G) P := by
  subst e0
  subst e1
  subst e2
  have k1 := h.1 24 (by simp)
  have k2 := h.1 119 (by simp)
  have k3 := h.1 1773 (by simp)
  have hx : nx u 24 = 24 := by
    unfold nx
    rw [k1]
    rfl
  obtain ⟨q1, q2, q3, q4, q5, q6, q7, q8, q9⟩ := g3_loop (s2 := 119) (s3 := 1773) (m2 := 5) (m3 := 840) (a := 24) (by decide) (by decide) (by decide) (by decide) (by decide) 9 (mkc u 24 9 9) (by rw [mK_mkc, if_neg (by decide)]; exact k2) (by rw [mK_mkc, if_neg (by decide)]; exact k3)
  have e : (gMk 24 9 (gMk 119 5 (g1 1773 840)) u).2 = gLoop (gMk 119 5 (g1 1773 840)) 24 9 (mkc u 24 9 9) := by
    show gLoop _ (nx u 24) 9 _ = _
    rw [hx]
  have hF : Fs [24, 119, 1773] u (gMk 24 9 (gMk 119 5 (g1 1773 840)) u).2 := by
    rw [e]
    exact ((Fs_mkc (by decide)).mono (by simp)).tr q1
  have hO : Fo u (gMk 24 9 (gMk 119 5 (g1 1773 840)) u).2 := by
    rw [e]
    exact Fo_mkc.tr q2
  have hb := h.frame (ks' := ks) (nc' := nc + 55) (ns' := ns + 37854) hF hO (by decide) (by decide) (fun z => by cases z) (fun t ht => ⟨by simp [ht], hks t ht⟩) hlr hln hlz hlw (by rw [e, q8, mC_mkc, h.2.2.2.2.2.2.2.2.2.2.1]) (by rw [e, q9, mS_mkc, h.2.2.2.2.2.2.2.2.2.2.2])
  show Ini (G (gMk 24 9 (gMk 119 5 (g1 1773 840)) u).1 (gMk 24 9 (gMk 119 5 (g1 1773 840)) u).2) P
  have e1 : (gMk 24 9 (gMk 119 5 (g1 1773 840)) u).1 = 24 := hx
  rw [e1]
  obtain ⟨f1, f2, f3, f4, f5, f6, f7⟩ := hb
  refine g _ ⟨f1, f2, fun q hq => ?_, f4, fun q hq i hi => ?_, fun _ s c h1 h2 => ?_, f7⟩
  · rcases List.mem_cons.mp hq with z | z
    · rw [z, e, q7 24 rfl]
      show mN (mkc u 24 9 9) 24 = 9
      rw [mN_mkc, if_pos hx.symm]
    · exact f3 q z
  · rcases List.mem_cons.mp hq with z | z
    · rw [z] at hi ⊢
      rw [e]
      exact ⟨(q6 i hi).1, (q6 i hi).2.1⟩
    · exact f5 q z i hi
  · rw [e]
    exact (q6 s h1).2.2 c h2
end IN
