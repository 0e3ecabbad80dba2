set_option maxRecDepth 100000
/-! ===== arrays of arrays, made at once ===== -/
def lt2 {β : Type} (q : Nat × zM) (f : Nat → zM → β) : β := f q.1 q.2
def gLoop (F : zM → Nat × zM) (a : Nat) : Nat → zM → zM
  | 0, u => u
  | i + 1, u => sR (F (gLoop F a i u)).2 a i (some (F (gLoop F a i u)).1)
def g1 (σ n : Nat) (u : zM) : Nat × zM := (nx u σ, mkc u σ n n)
def gMk (σ n : Nat) (F : zM → Nat × zM) (u : zM) : Nat × zM := (nx u σ, gLoop F (nx u σ) n (mkc u σ n n))
def gOk (k dc ds : Nat) (F : zM → Nat × zM) : Prop := ∀ u, zWf u → zWf (F u).2 ∧ zEx u (F u).2 ∧ al (F u).2 (F u).1 ∧ kd (F u).1 = k ∧ mC (F u).2 = mC u + dc ∧ mS (F u).2 = mS u + ds ∧ ∀ n, al u n → mN (F u).2 n = mN u n
theorem gOk_1 {σ n : Nat} (hs : σ < 8192) (hk : σ % 32 < 27) : gOk (σ % 32) 1 n (g1 σ n) := by
  intro u hwf
  refine ⟨zWf_mkc hwf hs hk, zEx_mkc hs, (al_mkc hs).mpr (Or.inr rfl), kd_nx u σ, rfl, rfl, fun a ha => ?_⟩
  show mN (mkc u σ n n) a = _
  rw [mN_mkc, if_neg]
  intro e
  subst e
  exact al_nx hs ha
theorem gLoop_ok {F : zM → Nat × zM} {k dc ds a n : Nat} (hF : gOk k dc ds F) (hka : fT (kd a) = fun _ => k + 1) : ∀ (i : Nat) (u : zM), zWf u → al u a → mN u a = n → zWf (gLoop F a i u) ∧ zEx u (gLoop F a i u) ∧ mC (gLoop F a i u) = mC u + i * dc ∧ mS (gLoop F a i u) = mS u + i * ds ∧ ∀ n, al u n → mN (gLoop F a i u) n = mN u n
  | 0, u, h, _, _ => ⟨h, zEx.rf, by simp [gLoop], by simp [gLoop], fun _ _ => rfl⟩
  | i + 1, u, h, ha, hn => by
    obtain ⟨w, x, c, s, q⟩ := gLoop_ok hF hka i u h ha hn
    obtain ⟨w1, x1, a1, k1, c1, s1, q1⟩ := hF _ w
    refine ⟨zWf_sR w1 fun n' h => ?_, x.tr x1, ?_, ?_, fun n' h' => (q1 n' (x.2.2 n' h').1).trans (q n' h')⟩
    · cases h
      exact ⟨a1, by rw [k1, hka]⟩
    · show mC (F (gLoop F a i u)).2 = _
      rw [c1, c, Nat.succ_mul]; omega
    · show mS (F (gLoop F a i u)).2 = _
      rw [s1, s, Nat.succ_mul]; omega
theorem gOk_m {σ n k dc ds : Nat} {F : zM → Nat × zM} (hs : σ < 8192) (hk : σ % 32 < 27) (hf : fT (σ % 32) = fun _ => k + 1) (hF : gOk k dc ds F) : gOk (σ % 32) (1 + n * dc) (n + n * ds) (gMk σ n F) := by
  intro u hwf
  obtain ⟨o1, o2, o3, o4, o5, o6, o7⟩ := gOk_1 (n := n) hs hk u hwf
  obtain ⟨w, x, c, s, q⟩ := gLoop_ok (a := nx u σ) (n := n) hF (by rw [kd_nx]; exact hf) n _ o1 o3 (by show mN (mkc u σ n n) _ = _; rw [mN_mkc, if_pos rfl])
  refine ⟨w, o2.tr x, (x.2.2 _ o3).1, o4, ?_, ?_, fun n' h' => (q n' (o2.2.2 n' h').1).trans (o7 n' h')⟩
  · refine c.trans ?_
    rw [o5]; omega
  · refine s.trans ?_
    rw [o6]; omega
def gRun (F : zM → Nat × zM) (dc ds : Nat) (ty : FieldType) (counts : List Int32) : Prop :=
  ∀ (u : zM), zWf u → ∀ (K : zK) (p : Program) (l : Launch) (e : Env) (R : Room) (s : State) (m : MethodId) (args : Array Value) (below : List Frame) (meth : Method) (c : Code) (T : State) (locs : List Loc) (cells slots : Nat) (C : ClassId),
    Stand p l e R s m args below meth c T locs cells slots → zKU K s → (∀ w ∈ lw_all, w.before args s = true) → Cz K s u T.heap → va_S (zA K) s.heap T.heap locs → cells + dc ≤ R.cells → slots + ds ≤ R.slots → s.vm.findClass ("[" ++ ty.toString) = some C →
    ∃ (T1 : State) (locs1 : List Loc), Stand p l e R s m args below meth c T1 locs1 (cells + dc) (slots + ds) ∧ T1.vm = T.vm ∧ Cz K s (F u).2 T1.heap ∧ va_S (zA K) s.heap T1.heap locs1 ∧ ∀ (g : JFrame) (d : Bool) (acts : List Action) (E : CtlPost) (Q : Addr → Pre), (∀ (d' : Bool) (acts' : List Action), Q (ad K (F u).2 (F u).1) d' acts' (T1.setTop g)) → wp (multianewarray.make C counts) Q E e d acts (T.setTop g)
theorem gRun_1 {σ : Nat} {y : Int32} {ty : FieldType} (hs : σ < 8192) (h13 : 13 ≤ σ % 32) (h16 : σ % 32 < 16) (hz : zTy (σ % 32) = ty) (hw : Cond.arrayClass ty ∈ lw_all) (hy : ¬ y < 0) (hb : y.toNatClampNeg ≤ 65536) (hcb : componentBytes ty ≤ 8) (hdf : fits ty (defaultValue ty) = true) (hdd : defaultValue ty = .int 0) (hra : ∀ (U : State) (cA : ClassId), U.vm.findClass ("[" ++ ty.toString) = some cA → va_RA U cA ty) : gRun (g1 σ y.toNatClampNeg) 1 y.toNatClampNeg ty [y] := by
  intro u hwf K p l e R s m args below meth c T locs cells slots C X hKU hts hC hV q1 q2 hcl
  obtain ⟨comp', kC, cc, hcomp', hkC, hkindC⟩ := Cond.arrayClass_spec (hts _ hw)
  cases hcomp'.symm.trans hcl
  have hal : s.vm.Alike T.vm := X.warmed.alike
  obtain ⟨kC₁, hkC₁, heC⟩ := hal.2.2 _ _ hkC
  have hkindC₁ : kC₁.kind = .array cc ty := by rw [heC]; exact hkindC
  obtain ⟨hr1, hr2⟩ := X.roomAbove (a := 1) (b := y.toNatClampNeg) q1 q2
  have hl2 : ¬ y.toNatClampNeg > e.platform.arrayLengthLimit := by rw [Launch.admits_arrayLengthLimit X.admits]; omega
  have hm : y.toNatClampNeg * componentBytes ty ≤ 536870912 := Nat.le_trans (Nat.mul_le_mul hb hcb) (by decide)
  have hh2 : ¬ y.toNatClampNeg * componentBytes ty > e.platform.maxHeapBytes := by rw [Launch.admits_maxHeapBytes X.admits]; omega
  have hz3 : zCell K.1 s (T.pushCell (Jvm.Free.Multi.innerC C y.toNatClampNeg (defaultValue ty))).heap T.heap.size (σ % 32) y.toNatClampNeg (fun _ => 0) (fun _ => 0) (fun _ => none) := by
    unfold zCell
    rw [if_neg (by omega), hz, if_pos h16]
    refine ⟨C, fun n z => ⟨fun k h => (by cases h), kC, hkC, cc, hkindC⟩, hra s C hcl, ?_⟩
    show _ = some (arrV C y.toNatClampNeg (fun _ => .int 0))
    rw [← hdd, ← arrV_new]
    show (T.heap.push _)[T.heap.size]? = _
    simp [Jvm.Free.Multi.innerC]
  have hC1 := hC.new (len := y.toNatClampNeg) (sl := y.toNatClampNeg) hs (by omega) (H' := (T.pushCell (Jvm.Free.Multi.innerC C y.toNatClampNeg (defaultValue ty))).heap) (by show (T.heap.push _).size = _; simp) (fun q hq => State.heap_pushCell_of_lt _ _ hq) hwf hz3
  have e3 : ad K (g1 σ y.toNatClampNeg u).2 (g1 σ y.toNatClampNeg u).1 = T.heap.size := by
    show ad K (mkc u σ y.toNatClampNeg y.toNatClampNeg) (nx u σ) = _
    rw [ad_own (by rw [kd_nx]; omega), mA_mkc, if_pos rfl]
    exact hC.2.2.1.symm
  have X1 := X.pushed (Jvm.Free.Multi.innerC C y.toNatClampNeg (defaultValue ty))
  have e4 : (Jvm.Free.Multi.innerC C y.toNatClampNeg (defaultValue ty)).slots.size = y.toNatClampNeg := by simp [Jvm.Free.Multi.innerC]
  rw [e4] at X1
  have hV1 : va_S (zA K) s.heap (T.pushCell (Jvm.Free.Multi.innerC C y.toNatClampNeg (defaultValue ty))).heap locs := ⟨Nat.le_trans hV.1 (by show _ ≤ (T.heap.push _).size; simp), fun q a1 a2 => (State.heap_pushCell_of_lt _ _ (Nat.lt_of_lt_of_le a1 hV.1)).trans (hV.2.1 q a1 a2), hV.2.2⟩
  refine ⟨_, locs, X1, rfl, hC1, hV1, fun g d acts E Q kk => ?_⟩
  refine Jvm.Free.Multi.wp_make1 (s := T.setTop g) (comp := C) (cc := cc) (kc := kC₁) hkC₁ hkindC₁ hy hl2 hh2 hdf (by rw [hdd]; rfl) (by show T.heap.size < _; omega) (by show T.slotsUsed + _ ≤ _; omega) ?_
  have := kk d acts
  rw [e3] at this
  rw [State.pushCell_setTop]
  exact this
theorem gRun_m {σ k dc ds ci : Nat} {y r0 : Int32} {rs : List Int32} {ty : FieldType} {F : zM → Nat × zM} (hs : σ < 8192) (hci : σ % 32 = ci) (h17 : 23 ≤ ci) (h27 : ci < 26) (hf : fT (σ % 32) = fun _ => k + 1) (hk27 : k < 27) (hk13 : 13 ≤ k) (hz : zTy ci = .array ty) (hm : ty ∈ zAa) (hF : gOk k dc ds F) (hR : gRun F dc ds ty (r0 :: rs)) (hy : ¬ y < 0) (hneg : (r0 :: rs).find? (· < 0) = none) (hb : y.toNatClampNeg ≤ 65536) : gRun (gMk σ y.toNatClampNeg F) (1 + y.toNatClampNeg * dc) (y.toNatClampNeg + y.toNatClampNeg * ds) (.array ty) (y :: r0 :: rs) := by
  intro u hwf K p l e R s m args below meth c T locs cells slots C X hKU hts hC hV q1 q2 hcl
  obtain ⟨comp, cA, kA, hcomp, -, hkA, hkindA, hnameA⟩ := zAy_spec (hKU.2.2.2.2.2.1 ty hm)
  cases hnameA.symm.trans hcl
  have hal : s.vm.Alike T.vm := X.warmed.alike
  obtain ⟨kA₁, hkA₁, heA⟩ := hal.2.2 _ _ hkA
  have hkindA₁ : kA₁.kind = .array comp (.array ty) := by rw [heA]; exact hkindA
  obtain ⟨hr1, hr2⟩ := X.roomAbove q1 q2
  have hl1 : ¬ y.toNatClampNeg > e.platform.arrayLengthLimit := by rw [Launch.admits_arrayLengthLimit X.admits]; omega
  have hh1 : ¬ y.toNatClampNeg * componentBytes (.array ty) > e.platform.maxHeapBytes := by
    rw [Launch.admits_maxHeapBytes X.admits]; show ¬ y.toNatClampNeg * 4 > 536870912; omega
  have hz3 : zCell K.1 s (T.pushCell (Jvm.Free.Multi.innerC C y.toNatClampNeg .null)).heap T.heap.size (σ % 32) y.toNatClampNeg (fun _ => 0) (fun _ => 0) (fun _ => none) := by
    unfold zCell
    rw [if_neg (by omega), hci, hz, if_neg (by omega), if_neg (by omega)]
    refine ⟨C, fun n z => ⟨fun k h => (by cases h), kA, hkA, comp, hkindA⟩, hcl, ?_⟩
    show _ = some (arrV C y.toNatClampNeg (fun j => va_rf none))
    rw [show (fun j : Nat => va_rf none) = (fun _ => Value.null) from rfl, ← arrV_new]
    show (T.heap.push _)[T.heap.size]? = _
    simp [Jvm.Free.Multi.innerC]
  have hC1 := hC.new (len := y.toNatClampNeg) (sl := y.toNatClampNeg) hs (by omega) (H' := (T.pushCell (Jvm.Free.Multi.innerC C y.toNatClampNeg .null)).heap) (by show (T.heap.push _).size = _; simp) (fun q hq => State.heap_pushCell_of_lt _ _ hq) hwf hz3
  have X1 := X.pushed (Jvm.Free.Multi.innerC C y.toNatClampNeg .null)
  have e4 : (Jvm.Free.Multi.innerC C y.toNatClampNeg .null).slots.size = y.toNatClampNeg := by simp [Jvm.Free.Multi.innerC]
  rw [e4] at X1
  have hV1 : va_S (zA K) s.heap (T.pushCell (Jvm.Free.Multi.innerC C y.toNatClampNeg .null)).heap locs := ⟨Nat.le_trans hV.1 (by show _ ≤ (T.heap.push _).size; simp), fun q a1 a2 => (State.heap_pushCell_of_lt _ _ (Nat.lt_of_lt_of_le a1 hV.1)).trans (hV.2.1 q a1 a2), hV.2.2⟩
  obtain ⟨o1, o2, o3, o4, o5, o6, o7⟩ := gOk_1 (σ := σ) (n := y.toNatClampNeg) hs (by omega) u hwf
  simp only [g1] at o1 o2 o3 o7
  have o8 : mN (mkc u σ y.toNatClampNeg y.toNatClampNeg) (nx u σ) = y.toNatClampNeg := by rw [mN_mkc, if_pos rfl]
  have e3 : ad K (mkc u σ y.toNatClampNeg y.toNatClampNeg) (nx u σ) = T.heap.size := by
    rw [ad_own (by rw [kd_nx]; omega), mA_mkc, if_pos rfl]
    exact hC.2.2.1.symm
  have hloop := fun i => gLoop_ok (a := nx u σ) (n := y.toNatClampNeg) hF (by rw [kd_nx]; exact hf) i _ o1 o3 o8
  have hstep : ∀ (x : Nat) (Ti : State) (li : List Loc), x < y.toNatClampNeg → Stand p l e R s m args below meth c Ti li (cells + 1 + x * dc) (slots + y.toNatClampNeg + x * ds) → Ti.vm = T.vm → Cz K s (gLoop F (nx u σ) x (mkc u σ y.toNatClampNeg y.toNatClampNeg)) Ti.heap → va_S (zA K) s.heap Ti.heap li → ∃ (T2 : State) (l2 : List Loc), Stand p l e R s m args below meth c T2 l2 (cells + 1 + (x + 1) * dc) (slots + y.toNatClampNeg + (x + 1) * ds) ∧ T2.vm = T.vm ∧ Cz K s (gLoop F (nx u σ) (x + 1) (mkc u σ y.toNatClampNeg y.toNatClampNeg)) T2.heap ∧ va_S (zA K) s.heap T2.heap l2 ∧ ∀ (g : JFrame) (d : Bool) (acts : List Action) (E : CtlPost) (Q : Unit → Pre), (∀ (d' : Bool) (acts' : List Action), Q () d' acts' (T2.setTop g)) → wp (do writeLoc T.heap.size x (.ref (← multianewarray.make comp (r0 :: rs)))) Q E e d acts (Ti.setTop g) := by
    intro x Ti li hlt Xi hvm hCi hVi
    obtain ⟨w, xx, -, -, qq⟩ := hloop x
    obtain ⟨w1, x1, a1, k1, -, -, qq1⟩ := hF _ w
    have ale := (xx.2.2 _ o3).1
    have hmul : x * dc + dc ≤ y.toNatClampNeg * dc := by
      have := Nat.mul_le_mul_right dc (show x + 1 ≤ y.toNatClampNeg from hlt)
      rw [Nat.succ_mul] at this; exact this
    have hmul2 : x * ds + ds ≤ y.toNatClampNeg * ds := by
      have := Nat.mul_le_mul_right ds (show x + 1 ≤ y.toNatClampNeg from hlt)
      rw [Nat.succ_mul] at this; exact this
    obtain ⟨T1, l1, X2, hvm1, hC2, hV2, step⟩ := hR _ w K p l e R s m args below meth c Ti li _ _ comp Xi hKU hts hCi hVi (by omega) (by omega) hcomp
    have hn2 : al (F (gLoop F (nx u σ) x (mkc u σ y.toNatClampNeg y.toNatClampNeg))).2 (nx u σ) := (x1.2.2 _ ale).1
    obtain ⟨cA', b1, b2, b3⟩ := zAt_arr (ci := ci) hC2 hn2 ((kd_nx u σ).trans hci) (by omega) (by omega)
    rw [if_neg (by omega), if_neg (by omega)] at b3
    have hl2 : mN (F (gLoop F (nx u σ) x (mkc u σ y.toNatClampNeg y.toNatClampNeg))).2 (nx u σ) = y.toNatClampNeg := ((qq1 _ ale).trans (qq _ o3)).trans o8
    have e5 : ad K (F (gLoop F (nx u σ) x (mkc u σ y.toNatClampNeg y.toNatClampNeg))).2 (nx u σ) = T.heap.size := by
      rw [← e3, ad_own (by rw [kd_nx]; omega), ad_own (by rw [kd_nx]; omega), (x1.2.2 _ ale).2, (xx.2.2 _ o3).2]
    have hcA' : cA' = C := by
      rw [hz] at b2
      exact Option.some.inj (b2.symm.trans hcl)
    subst hcA'
    rw [hl2, e5] at b3
    refine ⟨T1.setCell T.heap.size (Cell.setSlot (vp_cell cA' (y.toNatClampNeg, .inr (.inr (.inr (.inr (fun k => (mR (F (gLoop F (nx u σ) x (mkc u σ y.toNatClampNeg y.toNatClampNeg))).2 (nx u σ) k).map (ad K (F (gLoop F (nx u σ) x (mkc u σ y.toNatClampNeg y.toNatClampNeg))).2))))))) x (.ref (ad K (F (gLoop F (nx u σ) x (mkc u σ y.toNatClampNeg y.toNatClampNeg))).2 (F (gLoop F (nx u σ) x (mkc u σ y.toNatClampNeg y.toNatClampNeg))).1))), l1 ++ [⟨T.heap.size, x⟩], ?_, hvm1.trans hvm, ?_, ?_, fun g d acts E Q kk => ?_⟩
    · have := X2.stored b3 x (.ref (ad K (F (gLoop F (nx u σ) x (mkc u σ y.toNatClampNeg y.toNatClampNeg))).2 (F (gLoop F (nx u σ) x (mkc u σ y.toNatClampNeg y.toNatClampNeg))).1))
      rw [Nat.succ_mul, Nat.succ_mul]
      rw [← Nat.add_assoc, ← Nat.add_assoc]
      exact this
    · refine zArr_ok (u1 := gLoop F (nx u σ) (x + 1) (mkc u σ y.toNatClampNeg y.toNatClampNeg)) hC2 hn2 ((kd_nx u σ).trans hci) (by omega) (by omega) (by simp [State.setCell]) (fun q hq => State.heap_setCell_other (fun z => hq (by rw [e5]; exact z.symm))) rfl rfl rfl rfl (fun n' hn' => ⟨rfl, funext fun j => by show mR (sR _ _ _ _) n' j = _; rw [mR_sR, if_neg (fun z => hn' z.1)], rfl, rfl⟩) b1 b2 ?_
      rw [if_neg (by omega), if_neg (by omega), e5, hl2]
      refine (State.heap_setCell_self b3).trans ?_
      show some ((arrV cA' y.toNatClampNeg (fun j => va_rf ((mR (F (gLoop F (nx u σ) x (mkc u σ y.toNatClampNeg y.toNatClampNeg))).2 (nx u σ) j).map (ad K (F (gLoop F (nx u σ) x (mkc u σ y.toNatClampNeg y.toNatClampNeg))).2)))).setSlot x (.ref (ad K (F (gLoop F (nx u σ) x (mkc u σ y.toNatClampNeg y.toNatClampNeg))).2 (F (gLoop F (nx u σ) x (mkc u σ y.toNatClampNeg y.toNatClampNeg))).1))) = some (arrV cA' y.toNatClampNeg (fun j => va_rf ((mR (sR (F (gLoop F (nx u σ) x (mkc u σ y.toNatClampNeg y.toNatClampNeg))).2 (nx u σ) x (some (F (gLoop F (nx u σ) x (mkc u σ y.toNatClampNeg y.toNatClampNeg))).1)) (nx u σ) j).map (ad K (F (gLoop F (nx u σ) x (mkc u σ y.toNatClampNeg y.toNatClampNeg))).2))))
      rw [arrV_store]
      congr 2
      funext q
      rw [mR_sR]
      by_cases hq : q = x
      · subst hq
        simp [updV, va_rf]
      · simp [updV, hq]
    · have hA : zA K T.heap.size := by rw [← e5]; exact ad_A (by rw [kd_nx]; omega)
      exact hV2.put (by simp [State.setCell]) (fun q hq => State.heap_setCell_other (fun z => hq z.symm)) hA
    · simp only [wp_bind']
      refine step g _ _ _ _ fun d' acts' => ?_
      simp only [W.writeLoc]
      refine ⟨_, b3, (fun h => by cases h), by show _ < (arrV _ _ _).slots.size; rw [arrV_size]; exact hlt, ?_, kk _ _⟩
      obtain ⟨kA₂, hkA₂, heA₂⟩ := X2.warmed.alike.2.2 _ _ hkA
      have : kA₂.kind = .array comp (.array ty) := by rw [heA₂]; exact hkindA
      simp [State.fitsSlot, State.slotType?, vp_cell, arrV, hkA₂, this]
      rfl
  have hall : ∀ (j x : Nat) (Ti : State) (li : List Loc), x + j = y.toNatClampNeg → Stand p l e R s m args below meth c Ti li (cells + 1 + x * dc) (slots + y.toNatClampNeg + x * ds) → Ti.vm = T.vm → Cz K s (gLoop F (nx u σ) x (mkc u σ y.toNatClampNeg y.toNatClampNeg)) Ti.heap → va_S (zA K) s.heap Ti.heap li → ∃ (T2 : State) (l2 : List Loc), Stand p l e R s m args below meth c T2 l2 (cells + 1 + y.toNatClampNeg * dc) (slots + y.toNatClampNeg + y.toNatClampNeg * ds) ∧ T2.vm = T.vm ∧ Cz K s (gLoop F (nx u σ) y.toNatClampNeg (mkc u σ y.toNatClampNeg y.toNatClampNeg)) T2.heap ∧ va_S (zA K) s.heap T2.heap l2 ∧ ∀ (g : JFrame) (d : Bool) (acts : List Action) (E : CtlPost) (Q : PUnit → Pre), (∀ (d' : Bool) (acts' : List Action), Q ⟨⟩ d' acts' (T2.setTop g)) → wp (forIn (List.range' x j 1) PUnit.unit (fun i _ => do writeLoc T.heap.size i (.ref (← multianewarray.make comp (r0 :: rs))); Pure.pure (ForInStep.yield PUnit.unit))) Q E e d acts (Ti.setTop g) := by
    intro j
    induction j with
    | zero =>
      intro x Ti li hx Xi hvm hCi hVi
      have : x = y.toNatClampNeg := by omega
      subst this
      refine ⟨Ti, li, Xi, hvm, hCi, hVi, fun g d acts E Q kk => ?_⟩
      simp only [List.range'_zero, List.forIn_nil, wp_pure']
      exact kk _ _
    | succ j ih =>
      intro x Ti li hx Xi hvm hCi hVi
      obtain ⟨T2, l2, X2, v2, C2, V2, s2⟩ := hstep x Ti li (by omega) Xi hvm hCi hVi
      obtain ⟨T3, l3, X3, v3, C3, V3, s3⟩ := ih (x + 1) T2 l2 (by omega) X2 v2 C2 V2
      refine ⟨T3, l3, X3, v3, C3, V3, fun g d acts E Q kk => ?_⟩
      have hh := s2 g d acts E (fun _ d' acts' s' => wp (forIn (List.range' (x + 1) j 1) PUnit.unit (fun i _ => do writeLoc T.heap.size i (.ref (← multianewarray.make comp (r0 :: rs))); Pure.pure (ForInStep.yield PUnit.unit))) Q E e d' acts' s') (fun d' acts' => s3 g d' acts' E Q kk)
      rw [List.range'_succ, List.forIn_cons]
      simp only [wp_bind', wp_pure'] at hh ⊢
      exact hh
  obtain ⟨T2, l2, X2, v2, C2, V2, s2⟩ := hall y.toNatClampNeg 0 (T.pushCell (Jvm.Free.Multi.innerC C y.toNatClampNeg .null)) locs (by omega) (by simpa using X1) rfl hC1 hV1
  have e6 : ad K (gMk σ y.toNatClampNeg F u).2 (gMk σ y.toNatClampNeg F u).1 = T.heap.size := by
    rw [← e3]
    show ad K (gLoop F (nx u σ) y.toNatClampNeg _) (nx u σ) = _
    rw [ad_own (by rw [kd_nx]; omega), ad_own (by rw [kd_nx]; omega), ((hloop _).2.1.2.2 _ o3).2]
  rw [Nat.add_assoc, Nat.add_assoc] at X2
  refine ⟨T2, l2, X2, v2, C2, V2, fun g d acts E Q kk => ?_⟩
  rw [multianewarray.make]
  simp only [wp_bind', W.ite, hy, if_false, wp_pure', W.theClass, State.vm_setTop, hkA₁, hkindA₁, Option.some.injEq, exists_eq_left']
  refine Jvm.Free.Multi.wp_newArray (s := T.setTop g) hkA₁ hkindA₁ hl1 hh1 rfl rfl (by show T.heap.size < _; omega) (by show T.slotsUsed + _ ≤ _; omega) ?_
  simp only [hneg]
  rw [ite_self, wp_bind', Std.Legacy.Range.forIn_eq_forIn_range']
  have hsz : ([:y.toNatClampNeg] : Std.Legacy.Range).size = y.toNatClampNeg := by simp [Std.Legacy.Range.size]
  rw [hsz]
  show wp (forIn (List.range' 0 y.toNatClampNeg 1) PUnit.unit _) _ E e d acts _
  refine s2 g _ _ _ _ fun d' acts' => ?_
  simp only [wp_pure']
  rw [e6] at kk
  exact kk _ _
section GG
variable {β : Type} {own : String} {cc : ByteArray} {nL : Nat} {rt : Option FieldType} {ini : Bool} {fr lo : Nat} {ob : β → zM → Prop} {Qf : zQf β} {tb : List ExceptionTableEntry} {c0 s0 pc : Nat} {A : List (Nat × Value)} {B : List (Nat × Int64)} {st : List Value} {u : zM}
theorem go_manew2 {idx k dc ds : Nat} {n0 n1 : Int32} {ty : FieldType} {F : zM → Nat × zM} {f : Nat → zM → Option (β × zM)} (hl : Cond.classLink own idx ("[" ++ ty.toString) ∈ lw_all) (hF : gOk k dc ds F) (hR : gRun F dc ds ty [n0, n1]) (d : decode cc pc = .ok (.multianewarray idx 2, 4)) (g : ∀ (n : Nat) (u1 : zM), kd n = k → Go own cc nL rt ini fr lo tb ob Qf c0 s0 (pc + 4) A B (.ref n :: st) u1 (f n u1)) : Go own cc nL rt ini fr lo tb ob Qf c0 s0 pc A B (.int n1 :: .int n0 :: st) u (lt2 (F u) f) := by
  intro b u' ho hwf hA hS
  have hS' : okS u st := fun v hv => hS v (by simp [hv])
  obtain ⟨o1, o2, o3, o4, o5, o6, o7⟩ := hF u hwf
  obtain ⟨h1, h2⟩ := g (F u).1 (F u).2 o4 b u' ho o1 (hA.ex o2) (okS_cons.mpr ⟨okV_ref.mpr o3, hS'.ex o2⟩)
  refine ⟨⟨h1.1, o2.tr h1.2.1, h1.2.2⟩, fun K p l e R s m args below meth c H locs ls hc q1 q2 q3 q4 hC hV hL => ?_⟩
  have hc1 := h1.2.1.1
  have hs1 := h1.2.1.2.1
  have hts := hc.2.2.2.2.2.1
  intro T hT X
  subst hT
  have hpl : e.platform.magicAccessors = ({} : Platform).magicAccessors := by rw [X.admits.platform]
  obtain ⟨cA, hfc0, hcl⟩ := Cond.classLink_spec hc.2.2.2.2.1 (hts _ hl) e.platform hpl
  obtain ⟨hg₁, hwarm₁, hready₁⟩ := State.classEntry (e := e) X.warmed hcl
  generalize T.vm.noted m.cls idx (.cls cA) = vm₁ at hg₁ hwarm₁ hready₁
  have X₁ := X.noted hwarm₁
  obtain ⟨T1, locs1, X1, hvm1, hC1, hV1, step⟩ := hR u hwf K p l e R s m args below meth c (T.setVm vm₁) locs _ _ cA X₁ hc.2.2.2.2.2.2.2.2.2.2.1 hts hC hV (by omega) (by omega) hfc0
  have kk := h2 K p l e R s m args below meth c T1.heap locs1 ls hc (by omega) (by omega) q3 q4 hC1 hV1 (hL.ex hA o2)
  have nn1 : mC (F u).2 - c0 = mC u - c0 + dc := by omega
  have nn2 : mS (F u).2 - s0 = mS u - s0 + ds := by omega
  rw [nn1, nn2, List.map_cons, cv_ref, cvS_ex hS' o2] at kk
  obtain ⟨t, a1, b1⟩ := kk T1 rfl X1
  refine ⟨t, ?_, b1⟩
  have hexec := hc.1
  have hd : decode c.code (F0 m pc ls ((.int n1 :: .int n0 :: st).map (cv K u))).pc = .ok (.multianewarray idx 2, 4) := by rw [hc.2.1]; exact d
  generalize hg : F0 m pc ls ((.int n1 :: .int n0 :: st).map (cv K u)) = g at hd
  have hgm : g.method = m := by rw [← hg]
  have hgs : g.stack = .int n1 :: .int n0 :: st.map (cv K u) := by rw [← hg]; rfl
  have hg4 : ∀ v, F0 m (pc + 4) ls v = { g with pc := g.pc + 4, stack := v } := fun v => by rw [← hg]
  rw [hg4] at a1
  clear hg4
  clear hg
  subst hgm
  jvm_step X.here [hexec, hd]
  simp only [multianewarray.sem, wp_bind', W.resolveClassAt_links (State.method?_setTop g X.here.top) hg₁]
  rw [W.popN, if_neg (by decide)]
  refine ⟨g, State.topJava?_setTop' (s := T.setVm vm₁) g X.here.top, [.int n0, .int n1], st.map (cv K u), rfl, hgs, ?_⟩
  simp only [List.mapM_cons, List.mapM_nil, wp_bind', wp_pure']
  have eS : ((T.setTop g).setVm vm₁).setTop { g with stack := st.map (cv K u) } = (T.setVm vm₁).setTop { g with stack := st.map (cv K u) } := by
    show ((T.setVm vm₁).setTop g).setTop _ = _
    rw [State.setTop_setTop]
  rw [eS]
  refine step _ _ _ _ _ fun d' acts' => ?_
  simp only [wp_bind', W.mark, W.pushRef, State.topJava?_setTop' _ X1.here.top, Option.some.injEq, exists_eq_left', State.setTop_setTop, State.heap_setTop]
  intro acts
  simp [jvm, X1.here.top]
  exact a1
theorem go_manew3 {idx k dc ds : Nat} {n0 n1 n2 : Int32} {ty : FieldType} {F : zM → Nat × zM} {f : Nat → zM → Option (β × zM)} (hl : Cond.classLink own idx ("[" ++ ty.toString) ∈ lw_all) (hF : gOk k dc ds F) (hR : gRun F dc ds ty [n0, n1, n2]) (d : decode cc pc = .ok (.multianewarray idx 3, 4)) (g : ∀ (n : Nat) (u1 : zM), kd n = k → Go own cc nL rt ini fr lo tb ob Qf c0 s0 (pc + 4) A B (.ref n :: st) u1 (f n u1)) : Go own cc nL rt ini fr lo tb ob Qf c0 s0 pc A B (.int n2 :: .int n1 :: .int n0 :: st) u (lt2 (F u) f) := by
  intro b u' ho hwf hA hS
  have hS' : okS u st := fun v hv => hS v (by simp [hv])
  obtain ⟨o1, o2, o3, o4, o5, o6, o7⟩ := hF u hwf
  obtain ⟨h1, h2⟩ := g (F u).1 (F u).2 o4 b u' ho o1 (hA.ex o2) (okS_cons.mpr ⟨okV_ref.mpr o3, hS'.ex o2⟩)
  refine ⟨⟨h1.1, o2.tr h1.2.1, h1.2.2⟩, fun K p l e R s m args below meth c H locs ls hc q1 q2 q3 q4 hC hV hL => ?_⟩
  have hc1 := h1.2.1.1
  have hs1 := h1.2.1.2.1
  have hts := hc.2.2.2.2.2.1
  intro T hT X
  subst hT
  have hpl : e.platform.magicAccessors = ({} : Platform).magicAccessors := by rw [X.admits.platform]
  obtain ⟨cA, hfc0, hcl⟩ := Cond.classLink_spec hc.2.2.2.2.1 (hts _ hl) e.platform hpl
  obtain ⟨hg₁, hwarm₁, hready₁⟩ := State.classEntry (e := e) X.warmed hcl
  generalize T.vm.noted m.cls idx (.cls cA) = vm₁ at hg₁ hwarm₁ hready₁
  have X₁ := X.noted hwarm₁
  obtain ⟨T1, locs1, X1, hvm1, hC1, hV1, step⟩ := hR u hwf K p l e R s m args below meth c (T.setVm vm₁) locs _ _ cA X₁ hc.2.2.2.2.2.2.2.2.2.2.1 hts hC hV (by omega) (by omega) hfc0
  have kk := h2 K p l e R s m args below meth c T1.heap locs1 ls hc (by omega) (by omega) q3 q4 hC1 hV1 (hL.ex hA o2)
  have nn1 : mC (F u).2 - c0 = mC u - c0 + dc := by omega
  have nn2 : mS (F u).2 - s0 = mS u - s0 + ds := by omega
  rw [nn1, nn2, List.map_cons, cv_ref, cvS_ex hS' o2] at kk
  obtain ⟨t, a1, b1⟩ := kk T1 rfl X1
  refine ⟨t, ?_, b1⟩
  have hexec := hc.1
  have hd : decode c.code (F0 m pc ls ((.int n2 :: .int n1 :: .int n0 :: st).map (cv K u))).pc = .ok (.multianewarray idx 3, 4) := by rw [hc.2.1]; exact d
  generalize hg : F0 m pc ls ((.int n2 :: .int n1 :: .int n0 :: st).map (cv K u)) = g at hd
  have hgm : g.method = m := by rw [← hg]
  have hgs : g.stack = .int n2 :: .int n1 :: .int n0 :: st.map (cv K u) := by rw [← hg]; rfl
  have hg4 : ∀ v, F0 m (pc + 4) ls v = { g with pc := g.pc + 4, stack := v } := fun v => by rw [← hg]
  rw [hg4] at a1
  clear hg4
  clear hg
  subst hgm
  jvm_step X.here [hexec, hd]
  simp only [multianewarray.sem, wp_bind', W.resolveClassAt_links (State.method?_setTop g X.here.top) hg₁]
  rw [W.popN, if_neg (by decide)]
  refine ⟨g, State.topJava?_setTop' (s := T.setVm vm₁) g X.here.top, [.int n0, .int n1, .int n2], st.map (cv K u), rfl, hgs, ?_⟩
  simp only [List.mapM_cons, List.mapM_nil, wp_bind', wp_pure']
  have eS : ((T.setTop g).setVm vm₁).setTop { g with stack := st.map (cv K u) } = (T.setVm vm₁).setTop { g with stack := st.map (cv K u) } := by
    show ((T.setVm vm₁).setTop g).setTop _ = _
    rw [State.setTop_setTop]
  rw [eS]
  refine step _ _ _ _ _ fun d' acts' => ?_
  simp only [wp_bind', W.mark, W.pushRef, State.topJava?_setTop' _ X1.here.top, Option.some.injEq, exists_eq_left', State.setTop_setTop, State.heap_setTop]
  intro acts
  simp [jvm, X1.here.top]
  exact a1
end GG
theorem gI1 {σ : Nat} {y : Int32} (hs : σ < 8192) (hk : σ % 32 = 13) (hy : ¬ y < 0) (hb : y.toNatClampNeg ≤ 65536) : gRun (g1 σ y.toNatClampNeg) 1 y.toNatClampNeg .int [y] := gRun_1 hs (by omega) (by omega) (by rw [hk]; rfl) q167 hy hb (by decide) rfl rfl (fun U cA h => h)
theorem gZ1 {σ : Nat} {y : Int32} (hs : σ < 8192) (hk : σ % 32 = 15) (hy : ¬ y < 0) (hb : y.toNatClampNeg ≤ 65536) : gRun (g1 σ y.toNatClampNeg) 1 y.toNatClampNeg .boolean [y] := gRun_1 hs (by omega) (by omega) (by rw [hk]; rfl) q1540 hy hb (by decide) rfl rfl (fun U cA h => h)
theorem fT23 {k : Nat} (h : k = 23) : fT k = fun _ => 14 := by subst h; rfl
theorem fT24 {k : Nat} (h : k = 24) : fT k = fun _ => 24 := by subst h; rfl
theorem fT25 {k : Nat} (h : k = 25) : fT k = fun _ => 16 := by subst h; rfl
theorem sII : "[" ++ (FieldType.array .int).toString = "[[I" := by decide +kernel
theorem sIII : "[" ++ (FieldType.array (.array .int)).toString = "[[[I" := by decide +kernel
theorem sZZ : "[" ++ (FieldType.array .boolean).toString = "[[Z" := by decide +kernel
