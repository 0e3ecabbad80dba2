set_option maxRecDepth 100000
/-! ===== calls, ends, contracts ===== -/
/-- a method's end: its answer, the memory, the rest unchanged -/
def zPo {β : Type} (K : zK) (rv : β → Option Value) (b : β) (u' : zM) : Array Value → State → Outcome → State → Prop := fun _ st oc t => oc = .returned ((rv b).map (cv K u')) ∧ Cz K t u' t.heap ∧ va_F (zA K) st t
def zQ {β : Type} (rv : β → Option Value) : zQf β := fun K below args s mc ms b u' => MQ below (zPo K rv b u') args s mc ms (zA K)
/-- THE CONTRACT: where F u = some (b, u'), the method called with vs over the memory u returns b, and the memory is u' -/
def zMet {β : Type} (y : MethodName) (code : ByteArray) (nL : Nat) (ret : Option FieldType) (fr lo : Nat) (rv : β → Option Value) (ob : β → zM → Prop) (vs : List Value) (F : zM → Option (β × zM)) : Prop :=
  ∀ (u : zM) (b : β) (u' : zM), F u = some (b, u') → zWf u → okS u vs → (zWf u' ∧ zEx u u' ∧ ob b u') ∧
    ∀ (K : zK) (l : Launch), Met l y (ws_ y code nL ret) { frames := fr, cells := mC u' - mC u, slots := mS u' - mS u, locals := lo } (va_Pc (vs.map (cv K u)) (fun U => zKU K U ∧ Cz K U u U.heap)) (zPo K rv b u') (mC u' - mC u) (mS u' - mS u) (zA K)
def rvI : Int32 → Option Value := fun r => some (.int r)
def rvL : Int64 → Option Value := fun r => some (.long r)
def rvV : Unit → Option Value := fun _ => none
def rvR : Option Nat → Option Value := fun r => some (va_rf r)
def rvN : Nat → Option Value := fun n => some (.ref n)
def obT {β : Type} : β → zM → Prop := fun _ _ => True
def obR (k : Nat) : Option Nat → zM → Prop := fun r u => ∀ n, r = some n → al u n ∧ kd n = k
def obN (k : Nat) : Nat → zM → Prop := fun n u => al u n ∧ kd n = k
section GC
variable {β : Type} {own : String} {cc : ByteArray} {nL : Nat} {rt : Option FieldType} {ini : Bool} {fr lo : Nat} {tb : List ExceptionTableEntry} {ob : β → zM → Prop} {Qf : zQf β} {c0 s0 pc : Nat} {A : List (Nat × Value)} {B : List (Nat × Int64)} {st : List Value} {u : zM} {o : Option (β × zM)}
/-- ends -/
theorem go_end {stE : List Value} {b : β} {rv : β → Option Value} (hob : zWf u → okS u stE → ob b u)
    (hw : ∀ (K : zK) (p : Program) (l : Launch) (e : Env) (R : Room) (s : State) (m : MethodId) (args : Array Value) (below : List Frame) (meth : Method) (c : Code) (H : Heap) (locs : List Loc) (ls : Array Slot) (cells slots : Nat) (Qc : Array Value → State → Outcome → State → Prop), zCx own cc nL rt ini fr lo tb K p R s m args meth c → (∀ t : State, t.heap = H → s.WarmedH t.vm → Qc args s (.returned ((rv b).map (cv K u))) t) → (∀ q ∈ locs, zA K q.base) →
      W p l e R s m args below meth c H locs cells slots (MQ below Qc args s cells slots (zA K)) (F0 m pc ls (stE.map (cv K u)))) : Go own cc nL rt ini fr lo tb ob (zQ rv) c0 s0 pc A B stE u (some (b, u)) := by
  intro b' u' ho hwf hA hS
  cases ho
  refine ⟨⟨hwf, zEx.rf, hob hwf hS⟩, fun K p l e R s m args below meth c H locs ls hc q1 q2 q3 q4 hC hV hL => ?_⟩
  exact hw K p l e R s m args below meth c H locs ls _ _ (zPo K rv b u) hc (fun t ht hW => ⟨rfl, by rw [ht]; exact hC.moved hW.alike, hV.F ht⟩) hV.2.2
theorem go_ireturn {v : Int32} (hrt : rt = some .int) (d : decode cc pc = .ok (.ireturn, 1)) : Go (β := Int32) own cc nL rt ini fr lo tb obT (zQ rvI) c0 s0 pc A B [.int v] u (some (v, u)) :=
  go_end (stE := [.int v]) (b := v) (rv := rvI) (fun _ _ => trivial) (fun K p l e R s m args below meth c H locs ls cells slots Qc hc hq hf => W.iret hc.1 hc.2.1 (hc.2.2.1.trans hrt) hq hf d hc.2.2.2.2.2.2.1)
theorem go_gb {y : Int32} {o : Option (β × zM)} {st0 : List Value} (g : (y = 0 ∨ y = 1) → Go own cc nL rt ini fr lo tb ob Qf c0 s0 pc A B st0 u o) : Go own cc nL rt ini fr lo tb ob Qf c0 s0 pc A B st0 u (gb y o) := by
  intro b u' ho
  unfold gb at ho
  split at ho
  · rename_i h
    exact g h b u' ho
  · cases ho
theorem go_gz {y : Int32} {o : Option (β × zM)} {st0 : List Value} (g : ¬ y = 0 → Go own cc nL rt ini fr lo tb ob Qf c0 s0 pc A B st0 u o) : Go own cc nL rt ini fr lo tb ob Qf c0 s0 pc A B st0 u (gz y o) := by
  intro b u' ho
  unfold gz at ho
  split at ho
  · cases ho
  · rename_i h
    exact g h b u' ho
theorem go_zreturn {v : Int32} (hrt : rt = some .boolean) (d : decode cc pc = .ok (.ireturn, 1)) : Go (β := Int32) own cc nL rt ini fr lo tb obT (zQ rvI) c0 s0 pc A B [.int v] u (gb v (some (v, u))) :=
  go_gb fun h => go_end (stE := [.int v]) (b := v) (rv := rvI) (fun _ _ => trivial) (fun K p l e R s m args below meth c H locs ls cells slots Qc hc hq hf => W.zret hc.1 hc.2.1 (hc.2.2.1.trans hrt) (zKeep_bool h).1 hq hf d hc.2.2.2.2.2.2.1)
theorem go_vreturn (hrt : rt = none) (d : decode cc pc = .ok (.return_, 1)) : Go (β := Unit) own cc nL rt ini fr lo tb obT (zQ rvV) c0 s0 pc A B [] u (some ((), u)) :=
  go_end (stE := []) (b := ()) (rv := rvV) (fun _ _ => trivial) (fun K p l e R s m args below meth c H locs ls cells slots Qc hc hq hf => W.vret hc.1 hc.2.1 (hc.2.2.1.trans hrt) hq hf d hc.2.2.2.2.2.2.1)
theorem go_areturnQ {r : Option Nat} {k : Nat} {ty : FieldType} (hrt : rt = some ty) (hty : zRefTy ty) (hk : ∀ n, r = some n → kd n = k) (d : decode cc pc = .ok (.areturn, 1)) : Go (β := Option Nat) own cc nL rt ini fr lo tb (obR k) (zQ rvR) c0 s0 pc A B [va_rf r] u (some (r, u)) :=
  go_end (stE := [va_rf r]) (b := r) (rv := rvR) (fun _ hS n h => ⟨okV_rf.mp (okS_cons.mp hS).1 n h, hk n h⟩) (fun K p l e R s m args below meth c H locs ls cells slots Qc hc hq hf => W.aret hc.1 hc.2.1 (hc.2.2.1.trans hrt) hty (by rw [cv_rf]; cases r.map (ad K u) with
    | none => exact Or.inl rfl
    | some a => exact Or.inr ⟨a, rfl⟩) hq hf d hc.2.2.2.2.2.2.1)
theorem go_areturnN {n k : Nat} {ty : FieldType} (hrt : rt = some ty) (hty : zRefTy ty) (hk : kd n = k) (d : decode cc pc = .ok (.areturn, 1)) : Go (β := Nat) own cc nL rt ini fr lo tb (obN k) (zQ rvN) c0 s0 pc A B [.ref n] u (some (n, u)) :=
  go_end (stE := [.ref n]) (b := n) (rv := rvN) (fun _ hS => ⟨okV_ref.mp (okS_cons.mp hS).1, hk⟩) (fun K p l e R s m args below meth c H locs ls cells slots Qc hc hq hf => W.aret hc.1 hc.2.1 (hc.2.2.1.trans hrt) hty (Or.inr ⟨_, rfl⟩) hq hf d hc.2.2.2.2.2.2.1)
/-- a call, of any sort -/
theorem go_call {α : Type} {rv : α → Option Value} {oba : α → zM → Prop} {y : MethodName} {code : ByteArray} {nLy : Nat} {ret : Option FieldType} {fy ly : Nat} {vs : List Value} {F : zM → Option (α × zM)} {f : α → zM → Option (β × zM)} {stA : List Value}
    (hM : zMet y code nLy ret fy ly rv oba vs F) (hst : stA = vs.reverse ++ st)
    (hrun : ∀ (K : zK) (p : Program) (l : Launch) (e : Env) (R : Room) (s : State) (m : MethodId) (args : Array Value) (below : List Frame) (meth : Method) (c : Code) (H : Heap) (locs : List Loc) (ls : Array Slot) (cells slots mc ms : Nat) (Pc : Array Value → State → Prop) (Qc : Array Value → State → Outcome → State → Prop), zCx own cc nL rt ini fr lo tb K p R s m args meth c → ls.size = nL → Cz K s u H → okS u vs →
      Met l y (ws_ y code nLy ret) { frames := fy, cells := mc, slots := ms, locals := ly } Pc Qc mc ms (zA K) → FrameBlind Pc → (∀ U : State, U.heap = H → s.WarmedH U.vm → Pc (vs.map (cv K u)).toArray U) → cells + mc ≤ R.cells ∧ slots + ms ≤ R.slots →
      va_Run p l e R s m args below meth c H locs cells slots mc ms (F0 m pc ls (stA.map (cv K u))) (st.map (cv K u)) (Qc (vs.map (cv K u)).toArray) (zA K))
    (g : ∀ (a : α) (u1 : zM), oba a u1 → (∀ v, rv a = some v → okV u1 v) ∧ Go own cc nL rt ini fr lo tb ob Qf c0 s0 (pc + 3) A B ((rv a).toList ++ st) u1 (f a u1)) : Go own cc nL rt ini fr lo tb ob Qf c0 s0 pc A B stA u (bd (F u) f) := by
  intro b u' ho hwf hA hS
  unfold bd at ho
  cases hF : F u with
  | none => rw [hF] at ho; cases ho
  | some z =>
    obtain ⟨a, u1⟩ := z
    rw [hF] at ho
    have hvs : okS u vs := fun v hv => hS v (by rw [hst]; exact List.mem_append_left _ (List.mem_reverse.mpr hv))
    have hst' : okS u st := fun v hv => hS v (by rw [hst]; exact List.mem_append_right _ hv)
    obtain ⟨⟨w1, w2, w3⟩, hMet⟩ := hM u a u1 hF hwf hvs
    obtain ⟨gv, gg⟩ := g a u1 w3
    obtain ⟨h1, h2⟩ := gg b u' ho w1 (hA.ex w2) (fun v hv => by
      rcases List.mem_append.mp hv with q | q
      · cases hr : rv a with
        | none => rw [hr] at q; cases q
        | some x =>
          rw [hr] at q
          rw [List.mem_singleton.mp q]
          exact gv x hr
      · exact (hst' v q).ex w2)
    refine ⟨⟨h1.1, w2.tr h1.2.1, h1.2.2⟩, fun K p l e R s m args below meth c H locs ls hc q1 q2 q3 q4 hC hV hL => ?_⟩
    have m1 := w2.1
    have m2 := w2.2.1
    have m3 := h1.2.1.1
    have m4 := h1.2.1.2.1
    have hr := hrun K p l e R s m args below meth c H locs ls (mC u - c0) (mS u - s0) (mC u1 - mC u) (mS u1 - mS u) _ _ hc hL.1 hC hvs (hMet K l) (fun a0 U0 g0 mk0 q => ⟨q.1, (zKU.same (s := U0) (U := U0.calling g0 mk0 a0) rfl q.2.1), Cz.moved (s := U0) (U := U0.calling g0 mk0 a0) (Vm.Alike.refl U0.vm) q.2.2⟩) (fun U hU hW => ⟨rfl, hc.2.2.2.2.2.2.2.2.2.2.1.warm hW, by rw [hU]; exact hC.moved hW.alike⟩) ⟨by omega, by omega⟩
    intro T hT X
    obtain ⟨v, st₀, t, T', L, z0', X', hL', e1, e2, ⟨hv, hCt, hF1, hF2⟩, stp⟩ := hr T hT X
    cases Outcome.returned.inj hv
    have hV1 : va_S (zA K) s.heap T'.heap (locs ++ L) := by
      rw [z0'] at hF1 hF2
      exact ⟨Nat.le_trans hV.1 (by rw [e1]; exact hF1), fun q a1 a2 => by rw [e1, hF2 q (Nat.lt_of_lt_of_le a1 hV.1) a2]; exact hV.2.1 q a1 a2, fun q hq => by
        rcases List.mem_append.mp hq with h | h
        · exact hV.2.2 q h
        · exact hL' q h⟩
    have hC1 : Cz K s u1 T'.heap := by
      rw [e1]
      exact hCt.moved (by rw [← e2]; exact X'.warmed.alike.symm)
    have k := h2 K p l e R s m args below meth c T'.heap (locs ++ L) ls hc (by omega) (by omega) q3 q4 hC1 hV1 (hL.ex hA w2)
    have n1 : mC u1 - c0 = mC u - c0 + (mC u1 - mC u) := by omega
    have n2 : mS u1 - s0 = mS u - s0 + (mS u1 - mS u) := by omega
    rw [n1, n2, List.map_append, cvS_ex hst' w2] at k
    have n3 : ((rv a).toList.map (cv K u1)) = ((rv a).map (cv K u1)).toList := by cases rv a <;> rfl
    rw [n3] at k
    obtain ⟨t2, a1, b1⟩ := k T' rfl X'
    exact ⟨t2, stp t2 a1, b1⟩
theorem cats_cv {K : zK} {st : List Value} (h : (st.map fun v => v.category).sum ≤ 8) : ((st.map (cv K u)).map fun v => v.category).sum ≤ 8 := by
  rw [List.map_map]
  rw [show (st.map ((fun v => v.category) ∘ cv K u)) = st.map (fun v => v.category) from List.map_congr_left fun v _ => cat_cv v]
  exact h
/-- what a class' code needs to call y by its entry idx, through an object -/
def zLV (own : String) (idx : Nat) (y : MethodName) (code : ByteArray) (nLy : Nat) (ret : Option FieldType) (n : Nat) : Prop := GoodIn lw_all (wsV own idx y.cls y (ws_ y code nLy ret)) ∧ y.cls ≠ "java/lang/invoke/MethodHandle" ∧ y.cls ≠ "java/lang/invoke/VarHandle" ∧ (parseMethodDescriptor y.desc).map (fun d => d.parameters.length) = some n
/-- the same, static -/
def zLS (own : String) (idx : Nat) (y : MethodName) (code : ByteArray) (nLy : Nat) (ret : Option FieldType) (n : Nat) : Prop := GoodIn lw_all (va_wsS own idx y (ws_ y code nLy ret)) ∧ y.cls ≠ "java/lang/invoke/MethodHandle" ∧ y.cls ≠ "java/lang/invoke/VarHandle" ∧ (parseMethodDescriptor y.desc).map (fun d => d.parameters.length) = some n
theorem zl_map {K : zK} {vs st : List Value} : (vs.reverse ++ st).map (cv K u) = (vs.map (cv K u)).reverse ++ st.map (cv K u) := by
  rw [List.map_append, List.map_reverse]
theorem runV {K : zK} {idx n bn ci : Nat} {vs : List Value} {p : Program} {l : Launch} {e : Env} {R : Room} {s : State} {m : MethodId} {args : Array Value} {below : List Frame} {meth : Method} {c : Code} {H : Heap} {locs : List Loc} {ls : Array Slot} {cells slots mc ms : Nat} {y : MethodName} {code : ByteArray} {nLy : Nat} {ret : Option FieldType} {fy ly : Nat} {Pc : Array Value → State → Prop} {Qc : Array Value → State → Outcome → State → Prop} {C : String} {T : u_T} {N : Nat}
    (hLV : zLV own idx y code nLy ret n) (hn : vs.length = n) (hcl : zCl[ci]? = some (C, T, N)) (hy : C = y.cls) (hci : ci < 13) (hk : kd bn = ci) (hfr : fy + 1 ≤ fr ∧ 8 + (nLy + 11) + ly ≤ lo) (hcat : (st.map fun v => v.category).sum ≤ 8) (d : decode cc pc = .ok (.invokevirtual idx, 3))
    (hc : zCx own cc nL rt ini fr lo tb K p R s m args meth c) (hls : ls.size = nL) (hC : Cz K s u H) (hvs : okS u (.ref bn :: vs)) (hM : Met l y (ws_ y code nLy ret) { frames := fy, cells := mc, slots := ms, locals := ly } Pc Qc mc ms (zA K)) (hbl : FrameBlind Pc) (hp : ∀ U : State, U.heap = H → s.WarmedH U.vm → Pc ((Value.ref bn :: vs).map (cv K u)).toArray U) (hcs : cells + mc ≤ R.cells ∧ slots + ms ≤ R.slots) :
    va_Run p l e R s m args below meth c H locs cells slots mc ms (F0 m pc ls (((Value.ref bn :: vs).reverse ++ st).map (cv K u))) (st.map (cv K u)) (Qc ((Value.ref bn :: vs).map (cv K u)).toArray) (zA K) := by
  subst hy
  have hn' : al u bn := okV_ref.mp (okS_cons.mp hvs).1
  have hrecv : ∃ cell : Cell, H[ad K u bn]? = some cell ∧ cell.vm.isStatics = false ∧ s.vm.findClass y.cls = some cell.cls := by
    obtain ⟨r', hr', cellV, g1, g2, g3, -⟩ := zAt_obj hC hn' hk hci
    exact ⟨cellV, g1, by rw [g3]; rfl, by rw [g2]; exact (hc.2.2.2.2.2.2.2.2.2.2.1.1.1 ci _ hcl).2.1⟩
  refine va_runV (As := vs.map (cv K u)) (rest := st.map (cv K u)) (C := y.cls) ⟨hc.1, hc.2.1, hc.2.2.2.1, hc.2.2.2.2.1, hc.2.2.2.2.2.1⟩ hM (cwV n hc.2.2.2.2.2.1 hLV.1 rfl rfl rfl ⟨rfl, hLV.2⟩ ⟨Nat.le_trans hfr.1 hc.2.2.2.2.2.2.2.2.1, Nat.le_trans hfr.2 hc.2.2.2.2.2.2.2.2.2.1⟩) ⟨hbl, hrecv, hp⟩ rfl (by rw [List.length_map]; exact hn) hls ?_ (lv_room (cats_cv hcat)) d hcs
  show ((Value.ref bn :: vs).reverse ++ st).map (cv K u) = _
  rw [List.reverse_cons, List.append_assoc, List.map_append, List.map_reverse]
  rfl
theorem runS {K : zK} {idx n : Nat} {vs : List Value} {p : Program} {l : Launch} {e : Env} {R : Room} {s : State} {m : MethodId} {args : Array Value} {below : List Frame} {meth : Method} {c : Code} {H : Heap} {locs : List Loc} {ls : Array Slot} {cells slots mc ms : Nat} {y : MethodName} {code : ByteArray} {nLy : Nat} {ret : Option FieldType} {fy ly : Nat} {Pc : Array Value → State → Prop} {Qc : Array Value → State → Outcome → State → Prop}
    (hLV : zLS own idx y code nLy ret n) (hn : vs.length = n) (hfr : fy + 1 ≤ fr ∧ 8 + (nLy + 11) + ly ≤ lo) (hcat : (st.map fun v => v.category).sum ≤ 8) (d : decode cc pc = .ok (.invokestatic idx, 3))
    (hc : zCx own cc nL rt ini fr lo tb K p R s m args meth c) (hls : ls.size = nL) (hM : Met l y (ws_ y code nLy ret) { frames := fy, cells := mc, slots := ms, locals := ly } Pc Qc mc ms (zA K)) (hbl : FrameBlind Pc) (hp : ∀ U : State, U.heap = H → s.WarmedH U.vm → Pc (vs.map (cv K u)).toArray U) (hcs : cells + mc ≤ R.cells ∧ slots + ms ≤ R.slots) :
    va_Run p l e R s m args below meth c H locs cells slots mc ms (F0 m pc ls ((vs.reverse ++ st).map (cv K u))) (st.map (cv K u)) (Qc (vs.map (cv K u)).toArray) (zA K) :=
  va_runS (As := vs.map (cv K u)) (rest := st.map (cv K u)) ⟨hc.1, hc.2.1, hc.2.2.2.1, hc.2.2.2.2.1, hc.2.2.2.2.2.1⟩ hM (va_cwS n hc.2.2.2.2.2.1 hLV.1 rfl rfl rfl hLV.2 ⟨Nat.le_trans hfr.1 hc.2.2.2.2.2.2.2.2.1, Nat.le_trans hfr.2 hc.2.2.2.2.2.2.2.2.2.1⟩) ⟨hbl, hp⟩ rfl (by rw [List.length_map]; exact hn) hls zl_map (lv_room (cats_cv hcat)) d hcs
end GC
section GD
variable {β : Type} {own : String} {cc : ByteArray} {nL : Nat} {rt : Option FieldType} {ini : Bool} {fr lo : Nat} {tb : List ExceptionTableEntry} {ob : β → zM → Prop} {Qf : zQf β} {c0 s0 pc : Nat} {A : List (Nat × Value)} {B : List (Nat × Int64)} {st : List Value} {u : zM} {o : Option (β × zM)}
/-! stores -/
/-- no long stands at i, nor behind it -/
def bFree (i : Nat) (B : List (Nat × Int64)) : Bool := B.all (fun q => !(q.1 == i) && !(q.1 + 1 == i))
theorem lz_set {K : zK} {ls : Array Slot} {i : Nat} {v : Value} (hA : aUq A = true) (hB : bFree i B = true) {l' : List (Nat × Value)} (hl : (i, cv K u v) :: (A.map (fun q => (q.1, cv K u q.2)) ++ B.map (fun q => (q.1, Value.long q.2))).filter (fun q => !(q.1 == i) && !(q.1 + 1 == i && q.2.category == 2)) = l') (hcA : ∀ q ∈ A, q.2.category = 1) (h : lv_has ls nL l') : lzHas K u ls nL (aSet i v A) B := by
  subst hl
  refine ⟨h.1, h.2.1, fun q hq => h.2.2 q ?_⟩
  rcases List.mem_append.mp hq with g | g
  · obtain ⟨z, hz, rfl⟩ := List.mem_map.mp g
    rcases aSet_ne hA hz with rfl | ⟨e1, e2⟩
    · exact List.mem_cons_self
    · refine List.mem_cons_of_mem _ (List.mem_filter.mpr ⟨List.mem_append_left _ (List.mem_map.mpr ⟨z, e1, rfl⟩), ?_⟩)
      have : (cv K u z.2).category = 1 := by rw [cat_cv]; exact hcA z e1
      simp [e2, this]
  · obtain ⟨z, hz, rfl⟩ := List.mem_map.mp g
    have hf := List.all_eq_true.mp hB z hz
    refine List.mem_cons_of_mem _ (List.mem_filter.mpr ⟨List.mem_append_right _ (List.mem_map.mpr ⟨z, hz, rfl⟩), ?_⟩)
    simp only [Bool.and_eq_true, Bool.not_eq_true', beq_eq_false_iff_ne] at hf
    simp [hf.1, hf.2]
/-- a step that stores a value (of one word) in the local i -/
theorem go_store {pc' i : Nat} {v : Value} {A' : List (Nat × Value)} {B' : List (Nat × Int64)} {stA : List Value} (hi : i < nL) (hB : bFree i B' = true) (hBs : ∀ q ∈ B', q ∈ B) (hv : v.category = 1) (hA' : aSet i v A = A') (hst : stA = v :: st)
    (hw : ∀ (K : zK) (p : Program) (l : Launch) (e : Env) (R : Room) (s : State) (m : MethodId) (args : Array Value) (below : List Frame) (meth : Method) (c : Code) (H : Heap) (locs : List Loc) (ls : Array Slot) (cells slots : Nat) (Q : State → Prop) (lv : List (Nat × Value)), zCx own cc nL rt ini fr lo tb K p R s m args meth c → lv_has ls nL lv →
      (∀ ls' : Array Slot, lv_has ls' nL ((i, cv K u v) :: lv.filter (fun q => !(q.1 == i) && !(q.1 + 1 == i && q.2.category == 2))) → W p l e R s m args below meth c H locs cells slots Q (F0 m pc' ls' (st.map (cv K u)))) → W p l e R s m args below meth c H locs cells slots Q (F0 m pc ls (stA.map (cv K u))))
    (hU : aUq A' = true) (g : Go own cc nL rt ini fr lo tb ob Qf c0 s0 pc' A' B' st u o) : Go own cc nL rt ini fr lo tb ob Qf c0 s0 pc A B stA u o := by
  intro b u' ho hwf hA hS
  subst hst
  subst hA'
  have hS' := okS_cons.mp hS
  obtain ⟨h1, h2⟩ := g b u' ho hwf ⟨fun q hq => by
    rcases aSet_mem hq with e | e
    · rw [e]; exact ⟨hS'.1, hv⟩
    · exact hA.1 q e, hU⟩ hS'.2
  refine ⟨h1, fun K p l e R s m args below meth c H locs ls hc q1 q2 q3 q4 hC hV hL => ?_⟩
  have hL' : lzHas K u ls nL A B' := hL.sub (fun q h => h) hBs
  refine hw K p l e R s m args below meth c H locs ls _ _ _ _ hc hL' fun ls' hls' => ?_
  exact h2 K p l e R s m args below meth c H locs ls' hc q1 q2 q3 q4 hC hV (lz_set hA.2 hB rfl (fun q hq => (hA.1 q hq).2) hls')
theorem go_istore_n {j : Fin 4} {i : Nat} {x : Int32} {A' : List (Nat × Value)} (hij : (j : Nat) = i) (hi : i < nL) (hB : bFree i B = true) (hA' : aSet i (.int x) A = A') (hU : aUq A' = true) (d : decode cc pc = .ok (.istore_n j, 1)) (g : Go own cc nL rt ini fr lo tb ob Qf c0 s0 (pc + 1) A' B st u o) : Go own cc nL rt ini fr lo tb ob Qf c0 s0 pc A B (.int x :: st) u o :=
  go_store hi hB (fun q h => h) rfl hA' rfl (fun K p l e R s m args below meth c H locs ls cells slots Q lv hc h kk => lv_istore_n hc.1 hc.2.1 d hij h hi rfl kk) hU g
theorem go_istore {i : Nat} {x : Int32} {A' : List (Nat × Value)} (hi : i < nL) (hB : bFree i B = true) (hA' : aSet i (.int x) A = A') (hU : aUq A' = true) (d : decode cc pc = .ok (.istore i, 2)) (g : Go own cc nL rt ini fr lo tb ob Qf c0 s0 (pc + 2) A' B st u o) : Go own cc nL rt ini fr lo tb ob Qf c0 s0 pc A B (.int x :: st) u o :=
  go_store hi hB (fun q h => h) rfl hA' rfl (fun K p l e R s m args below meth c H locs ls cells slots Q lv hc h kk => lv_istore hc.1 hc.2.1 d h hi rfl kk) hU g
theorem go_astore_n {j : Fin 4} {i n : Nat} {A' : List (Nat × Value)} (hij : (j : Nat) = i) (hi : i < nL) (hB : bFree i B = true) (hA' : aSet i (.ref n) A = A') (hU : aUq A' = true) (d : decode cc pc = .ok (.astore_n j, 1)) (g : Go own cc nL rt ini fr lo tb ob Qf c0 s0 (pc + 1) A' B st u o) : Go own cc nL rt ini fr lo tb ob Qf c0 s0 pc A B (.ref n :: st) u o :=
  go_store hi hB (fun q h => h) rfl hA' rfl (fun K p l e R s m args below meth c H locs ls cells slots Q lv hc h kk => lv_astore_n hc.1 hc.2.1 d hij h hi rfl kk) hU g
theorem go_astore {i n : Nat} {A' : List (Nat × Value)} (hi : i < nL) (hB : bFree i B = true) (hA' : aSet i (.ref n) A = A') (hU : aUq A' = true) (d : decode cc pc = .ok (.astore i, 2)) (g : Go own cc nL rt ini fr lo tb ob Qf c0 s0 (pc + 2) A' B st u o) : Go own cc nL rt ini fr lo tb ob Qf c0 s0 pc A B (.ref n :: st) u o :=
  go_store hi hB (fun q h => h) rfl hA' rfl (fun K p l e R s m args below meth c H locs ls cells slots Q lv hc h kk => lv_astore hc.1 hc.2.1 d h hi rfl kk) hU g
theorem go_astore_nQ {j : Fin 4} {i : Nat} {r : Option Nat} {A' : List (Nat × Value)} (hij : (j : Nat) = i) (hi : i < nL) (hB : bFree i B = true) (hA' : aSet i (va_rf r) A = A') (hU : aUq A' = true) (d : decode cc pc = .ok (.astore_n j, 1)) (g : Go own cc nL rt ini fr lo tb ob Qf c0 s0 (pc + 1) A' B st u o) : Go own cc nL rt ini fr lo tb ob Qf c0 s0 pc A B (va_rf r :: st) u o := by
  cases r with
  | none => exact go_store (v := .null) hi hB (fun q h => h) rfl hA' rfl (fun K p l e R s m args below meth c H locs ls cells slots Q lv hc h kk => lv_astore_nN hc.1 hc.2.1 d hij h hi rfl kk) hU g
  | some n => exact go_astore_n hij hi hB hA' hU d g
theorem go_astoreQ {i : Nat} {r : Option Nat} {A' : List (Nat × Value)} (hi : i < nL) (hB : bFree i B = true) (hA' : aSet i (va_rf r) A = A') (hU : aUq A' = true) (d : decode cc pc = .ok (.astore i, 2)) (g : Go own cc nL rt ini fr lo tb ob Qf c0 s0 (pc + 2) A' B st u o) : Go own cc nL rt ini fr lo tb ob Qf c0 s0 pc A B (va_rf r :: st) u o := by
  cases r with
  | none => exact go_store (v := .null) hi hB (fun q h => h) rfl hA' rfl (fun K p l e R s m args below meth c H locs ls cells slots Q lv hc h kk => lv_astoreN hc.1 hc.2.1 d h hi rfl kk) hU g
  | some n => exact go_astore hi hB hA' hU d g
/-- longs -/
theorem go_lstoreG {pc' i : Nat} {x : Int64} {A' : List (Nat × Value)} {B' : List (Nat × Int64)} (hi : i + 1 < nL) (hA1 : ∀ q ∈ A', q ∈ A ∧ q.1 ≠ i ∧ q.1 ≠ i + 1) (hU : aUq A' = true) (hB1 : ∀ q ∈ B', q = (i, x) ∨ (q ∈ B ∧ q.1 ≠ i ∧ q.1 ≠ i + 1 ∧ q.1 + 1 ≠ i))
    (hw : ∀ (K : zK) (p : Program) (l : Launch) (e : Env) (R : Room) (s : State) (m : MethodId) (args : Array Value) (below : List Frame) (meth : Method) (c : Code) (H : Heap) (locs : List Loc) (ls : Array Slot) (cells slots : Nat) (Q : State → Prop) (lv : List (Nat × Value)), zCx own cc nL rt ini fr lo tb K p R s m args meth c → lv_has ls nL lv →
      (∀ ls' : Array Slot, lv_has ls' nL ((i, .long x) :: lv.filter (fun q => !(q.1 == i) && (!(q.1 == i + 1) && !(q.1 + 1 == i && q.2.category == 2)))) → W p l e R s m args below meth c H locs cells slots Q (F0 m pc' ls' (st.map (cv K u)))) → W p l e R s m args below meth c H locs cells slots Q (F0 m pc ls (.long x :: st.map (cv K u))))
    (g : Go own cc nL rt ini fr lo tb ob Qf c0 s0 pc' A' B' st u o) : Go own cc nL rt ini fr lo tb ob Qf c0 s0 pc A B (.long x :: st) u o := by
  intro b u' ho hwf hA hS
  have hS' := okS_cons.mp hS
  obtain ⟨h1, h2⟩ := g b u' ho hwf ⟨fun q hq => hA.1 q (hA1 q hq).1, hU⟩ hS'.2
  refine ⟨h1, fun K p l e R s m args below meth c H locs ls hc q1 q2 q3 q4 hC hV hL => ?_⟩
  refine hw K p l e R s m args below meth c H locs ls _ _ _ _ hc hL fun ls' hls' => ?_
  refine h2 K p l e R s m args below meth c H locs ls' hc q1 q2 q3 q4 hC hV ⟨hls'.1, hls'.2.1, fun q hq => hls'.2.2 q ?_⟩
  rcases List.mem_append.mp hq with g | g
  · obtain ⟨z, hz, rfl⟩ := List.mem_map.mp g
    obtain ⟨e1, e2, e3⟩ := hA1 z hz
    refine List.mem_cons_of_mem _ (List.mem_filter.mpr ⟨List.mem_append_left _ (List.mem_map.mpr ⟨z, e1, rfl⟩), ?_⟩)
    have : (cv K u z.2).category = 1 := by rw [cat_cv]; exact (hA.1 z e1).2
    simp [e2, e3, this]
  · obtain ⟨z, hz, rfl⟩ := List.mem_map.mp g
    rcases hB1 z hz with rfl | ⟨e1, e2, e3, e4⟩
    · exact List.mem_cons_self
    · refine List.mem_cons_of_mem _ (List.mem_filter.mpr ⟨List.mem_append_right _ (List.mem_map.mpr ⟨z, e1, rfl⟩), ?_⟩)
      simp [e2, e3, e4]
theorem go_lstore_n {j : Fin 4} {i : Nat} {x : Int64} {A' : List (Nat × Value)} {B' : List (Nat × Int64)} (hij : (j : Nat) = i) (hi : i + 1 < nL) (hA1 : ∀ q ∈ A', q ∈ A ∧ q.1 ≠ i ∧ q.1 ≠ i + 1) (hU : aUq A' = true) (hB1 : ∀ q ∈ B', q = (i, x) ∨ (q ∈ B ∧ q.1 ≠ i ∧ q.1 ≠ i + 1 ∧ q.1 + 1 ≠ i)) (d : decode cc pc = .ok (.lstore_n j, 1)) (g : Go own cc nL rt ini fr lo tb ob Qf c0 s0 (pc + 1) A' B' st u o) : Go own cc nL rt ini fr lo tb ob Qf c0 s0 pc A B (.long x :: st) u o :=
  go_lstoreG hi hA1 hU hB1 (fun K p l e R s m args below meth c H locs ls cells slots Q lv hc h kk => lv_lstore_n hc.1 hc.2.1 d hij h hi rfl kk) g
theorem go_lstore {i : Nat} {x : Int64} {A' : List (Nat × Value)} {B' : List (Nat × Int64)} (hi : i + 1 < nL) (hA1 : ∀ q ∈ A', q ∈ A ∧ q.1 ≠ i ∧ q.1 ≠ i + 1) (hU : aUq A' = true) (hB1 : ∀ q ∈ B', q = (i, x) ∨ (q ∈ B ∧ q.1 ≠ i ∧ q.1 ≠ i + 1 ∧ q.1 + 1 ≠ i)) (d : decode cc pc = .ok (.lstore i, 2)) (g : Go own cc nL rt ini fr lo tb ob Qf c0 s0 (pc + 2) A' B' st u o) : Go own cc nL rt ini fr lo tb ob Qf c0 s0 pc A B (.long x :: st) u o :=
  go_lstoreG hi hA1 hU hB1 (fun K p l e R s m args below meth c H locs ls cells slots Q lv hc h kk => lv_lstore hc.1 hc.2.1 d h hi rfl kk) g
theorem go_iinc {i : Nat} {n : Int} {x w : Int32} {A' : List (Nat × Value)} (hg : aGet A i = some (.int x)) (hw : Int32.ofInt n = w) (hi : i < nL) (hB : bFree i B = true) (hA' : aSet i (.int (x + w)) A = A') (hU : aUq A' = true) (d : decode cc pc = .ok (.iinc i n, 3)) (g : Go own cc nL rt ini fr lo tb ob Qf c0 s0 (pc + 3) A' B st u o) : Go own cc nL rt ini fr lo tb ob Qf c0 s0 pc A B st u o := by
  intro b u' ho hwf hA hS
  subst hA'
  obtain ⟨h1, h2⟩ := g b u' ho hwf ⟨fun q hq => by
    rcases aSet_mem hq with e | e
    · rw [e]; exact ⟨okV_int, rfl⟩
    · exact hA.1 q e, hU⟩ hS
  refine ⟨h1, fun K p l e R s m args below meth c H locs ls hc q1 q2 q3 q4 hC hV hL => ?_⟩
  have hmem : (i, Value.int x) ∈ A.map (fun q => (q.1, cv K u q.2)) ++ B.map (fun q => (q.1, Value.long q.2)) := List.mem_append_left _ (List.mem_map.mpr ⟨_, aGet_mem hg, rfl⟩)
  obtain ⟨k, hk⟩ := List.getElem?_of_mem hmem
  refine lv_iinc hc.1 hc.2.1 d hL hk (v := x + w) (by rw [hw]) hi rfl fun ls' hls' => ?_
  exact h2 K p l e R s m args below meth c H locs ls' hc q1 q2 q3 q4 hC hV (lz_set (v := .int (x + w)) hA.2 hB rfl (fun q hq => (hA.1 q hq).2) hls')
/-! null or not -/
theorem go_ifnull {r : Option Nat} {a : Option (β × zM)} {f : Nat → Option (β × zM)} {off : Int} {tgt : Nat} (d : decode cc pc = .ok (.ifnull off, 3)) (ht : (pc : Int) + off = (tgt : Int)) (g1 : r = none → Go own cc nL rt ini fr lo tb ob Qf c0 s0 tgt A B st u a) (g2 : ∀ n, r = some n → Go own cc nL rt ini fr lo tb ob Qf c0 s0 (pc + 3) A B st u (f n)) : Go own cc nL rt ini fr lo tb ob Qf c0 s0 pc A B (va_rf r :: st) u (oC r a f) := by
  cases r with
  | none => exact go_pure (pc' := tgt) (st := .null :: st) (st' := st) (fun hwf hA hS => (okS_cons.mp hS).2) (fun K p l e R s m args below meth c H locs ls cells slots Q hc hL hwf hS hC k => lv_ifnullN hc.1 hc.2.1 d ht k) (g1 rfl)
  | some n => exact go_pure (pc' := pc + 3) (st := .ref n :: st) (st' := st) (fun hwf hA hS => (okS_cons.mp hS).2) (fun K p l e R s m args below meth c H locs ls cells slots Q hc hL hwf hS hC k => lv_ifnull hc.1 hc.2.1 d k) (g2 n rfl)
theorem go_ifnonnull {r : Option Nat} {a : Option (β × zM)} {f : Nat → Option (β × zM)} {off : Int} {tgt : Nat} (d : decode cc pc = .ok (.ifnonnull off, 3)) (ht : (pc : Int) + off = (tgt : Int)) (g1 : r = none → Go own cc nL rt ini fr lo tb ob Qf c0 s0 (pc + 3) A B st u a) (g2 : ∀ n, r = some n → Go own cc nL rt ini fr lo tb ob Qf c0 s0 tgt A B st u (f n)) : Go own cc nL rt ini fr lo tb ob Qf c0 s0 pc A B (va_rf r :: st) u (oC r a f) := by
  cases r with
  | none => exact go_pure (pc' := pc + 3) (st := .null :: st) (st' := st) (fun hwf hA hS => (okS_cons.mp hS).2) (fun K p l e R s m args below meth c H locs ls cells slots Q hc hL hwf hS hC k => lv_ifnonnullN hc.1 hc.2.1 d k) (g1 rfl)
  | some n => exact go_pure (pc' := tgt) (st := .ref n :: st) (st' := st) (fun hwf hA hS => (okS_cons.mp hS).2) (fun K p l e R s m args below meth c H locs ls cells slots Q hc hL hwf hS hC k => lv_ifnonnull hc.1 hc.2.1 d ht k) (g2 n rfl)
/-- a reference that must be there -/
theorem go_nn {r : Option Nat} {f : Nat → Option (β × zM)} (g : ∀ n, r = some n → Go own cc nL rt ini fr lo tb ob Qf c0 s0 pc A B (.ref n :: st) u (f n)) : Go own cc nL rt ini fr lo tb ob Qf c0 s0 pc A B (va_rf r :: st) u (oB r f) := by
  cases r with
  | none => intro b u' ho; cases ho
  | some n => exact g n rfl
/-- the same, of what lies anywhere -/
theorem go_oB {r : Option Nat} {f : Nat → Option (β × zM)} (g : ∀ n, r = some n → Go own cc nL rt ini fr lo tb ob Qf c0 s0 pc A B st u (f n)) : Go own cc nL rt ini fr lo tb ob Qf c0 s0 pc A B st u (oB r f) := by
  cases r with
  | none => intro b u' ho; cases ho
  | some n => exact g n rfl
theorem ad_inj {K : zK} {s : State} {H : Heap} {n n' : Nat} (hC : Cz K s u H) (h : al u n) (h' : al u n') (hk : kd n < 27) (hk' : kd n' < 27) : ad K u n = ad K u n' ↔ n = n' := by
  refine ⟨fun e => hC.2.1 n n' h h' hk hk' ?_, fun e => by rw [e]⟩
  rw [ad_own hk, ad_own hk'] at e
  omega
/-- one object, or two -/
theorem go_acmp {eq : Bool} {x y : Option Nat} {o1 o2 : Option (β × zM)} {off : Int} {tgt k : Nat} (hk : k < 27) (hx : ∀ n, x = some n → kd n = k) (hy : ∀ n, y = some n → kd n = k) (d : decode cc pc = .ok (.if_acmp (if eq then .eq else .ne) off, 3)) (ht : (pc : Int) + off = (tgt : Int)) (g1 : Go own cc nL rt ini fr lo tb ob Qf c0 s0 (if eq then tgt else pc + 3) A B st u o1) (g2 : Go own cc nL rt ini fr lo tb ob Qf c0 s0 (if eq then pc + 3 else tgt) A B st u o2) : Go own cc nL rt ini fr lo tb ob Qf c0 s0 pc A B (va_rf y :: va_rf x :: st) u (if x = y then o1 else o2) := by
  have key : ∀ {K : zK} {s : State} {H : Heap}, Cz K s u H → okS u (va_rf y :: va_rf x :: st) → ((x.map (ad K u) = y.map (ad K u)) ↔ x = y) := by
    intro K s H hC hS
    have h1 := okV_rf.mp (okS_cons.mp hS).1
    have h2 := okV_rf.mp (okS_cons.mp (okS_cons.mp hS).2).1
    cases x with
    | none => cases y with
      | none => exact ⟨fun _ => rfl, fun _ => rfl⟩
      | some b => exact ⟨fun h => (by cases h), fun h => (by cases h)⟩
    | some a => cases y with
      | none => exact ⟨fun h => (by cases h), fun h => (by cases h)⟩
      | some b =>
        have := ad_inj hC (h2 a rfl) (h1 b rfl) (by rw [hx a rfl]; exact hk) (by rw [hy b rfl]; exact hk)
        simp only [Option.map_some, Option.some.injEq]
        exact this
  by_cases hxy : x = y
  · rw [if_pos hxy]
    cases eq with
    | true => exact go_pure (pc' := tgt) (st := va_rf y :: va_rf x :: st) (st' := st) (fun hwf hA hS => (okS_cons.mp (okS_cons.mp hS).2).2) (fun K p l e R s m args below meth c H locs ls cells slots Q hc hL hwf hS hC kk => by
        rw [List.map_cons, List.map_cons, cv_rf, cv_rf]
        exact lv_acmp_eq hc.1 hc.2.1 d ht (fun _ => kk) (fun q => absurd ((key hC hS).mpr hxy) q)) g1
    | false => exact go_pure (pc' := pc + 3) (st := va_rf y :: va_rf x :: st) (st' := st) (fun hwf hA hS => (okS_cons.mp (okS_cons.mp hS).2).2) (fun K p l e R s m args below meth c H locs ls cells slots Q hc hL hwf hS hC kk => by
        rw [List.map_cons, List.map_cons, cv_rf, cv_rf]
        exact lv_acmp_ne hc.1 hc.2.1 d ht (fun q => absurd ((key hC hS).mpr hxy) q) (fun _ => kk)) g1
  · rw [if_neg hxy]
    cases eq with
    | true => exact go_pure (pc' := pc + 3) (st := va_rf y :: va_rf x :: st) (st' := st) (fun hwf hA hS => (okS_cons.mp (okS_cons.mp hS).2).2) (fun K p l e R s m args below meth c H locs ls cells slots Q hc hL hwf hS hC kk => by
        rw [List.map_cons, List.map_cons, cv_rf, cv_rf]
        exact lv_acmp_eq hc.1 hc.2.1 d ht (fun q => absurd ((key hC hS).mp q) hxy) (fun _ => kk)) g2
    | false => exact go_pure (pc' := tgt) (st := va_rf y :: va_rf x :: st) (st' := st) (fun hwf hA hS => (okS_cons.mp (okS_cons.mp hS).2).2) (fun K p l e R s m args below meth c H locs ls cells slots Q hc hL hwf hS hC kk => by
        rw [List.map_cons, List.map_cons, cv_rf, cv_rf]
        exact lv_acmp_ne hc.1 hc.2.1 d ht (fun _ => kk) (fun q => absurd ((key hC hS).mp q) hxy)) g2
/-! switches: one case after another, by what the number is -/
theorem go_tableIn {dflt lo' hi : Int} {offs : Array Int} {len : Nat} {x : Int32} {off : Int} {tgt : Nat} (v : Int32) (hx : x = v) (d : decode cc pc = .ok (.tableswitch dflt lo' hi offs, len)) (h1 : ¬ v.toInt < lo') (h2 : ¬ hi < v.toInt) (ho : offs[(v.toInt - lo').toNat]? = some off) (ht : (pc : Int) + off = (tgt : Int)) (g : Go own cc nL rt ini fr lo tb ob Qf c0 s0 tgt A B st u o) : Go own cc nL rt ini fr lo tb ob Qf c0 s0 pc A B (.int x :: st) u o := by
  subst hx
  exact go_pure (pc' := tgt) (st := .int x :: st) (st' := st) (fun hwf hA hS => (okS_cons.mp hS).2) (fun K p l e R s m args below meth c H locs ls cells slots Q hc hL hwf hS hC k => lv_tableIn hc.1 hc.2.1 d h1 h2 ho ht k) g
theorem go_tableOut {dflt lo' hi : Int} {offs : Array Int} {len : Nat} {x : Int32} {tgt : Nat} (d : decode cc pc = .ok (.tableswitch dflt lo' hi offs, len)) (h : x.toInt < lo' ∨ hi < x.toInt) (ht : (pc : Int) + dflt = (tgt : Int)) (g : Go own cc nL rt ini fr lo tb ob Qf c0 s0 tgt A B st u o) : Go own cc nL rt ini fr lo tb ob Qf c0 s0 pc A B (.int x :: st) u o :=
  go_pure (pc' := tgt) (st := .int x :: st) (st' := st) (fun hwf hA hS => (okS_cons.mp hS).2) (fun K p l e R s m args below meth c H locs ls cells slots Q hc hL hwf hS hC k => lv_tableOut hc.1 hc.2.1 d h ht k) g
theorem go_lookup {dflt : Int} {ps : Array (Int × Int)} {len : Nat} {x : Int32} {off : Int} {tgt : Nat} (d : decode cc pc = .ok (.lookupswitch dflt ps, len)) (hp : (ps.toList.zip (ps.toList.drop 1)).all (fun (a, next) => a.1 < next.1) = true) (ho : Op.lookupswitch.offset ps.toList dflt x.toInt = off) (ht : (pc : Int) + off = (tgt : Int)) (g : Go own cc nL rt ini fr lo tb ob Qf c0 s0 tgt A B st u o) : Go own cc nL rt ini fr lo tb ob Qf c0 s0 pc A B (.int x :: st) u o :=
  go_pure (pc' := tgt) (st := .int x :: st) (st' := st) (fun hwf hA hS => (okS_cons.mp hS).2) (fun K p l e R s m args below meth c H locs ls cells slots Q hc hL hwf hS hC k => lv_lookup hc.1 hc.2.1 d hp ho ht k) g
theorem go_if {P : Prop} [Decidable P] {o1 o2 : Option (β × zM)} (g1 : P → Go own cc nL rt ini fr lo tb ob Qf c0 s0 pc A B st u o1) (g2 : ¬ P → Go own cc nL rt ini fr lo tb ob Qf c0 s0 pc A B st u o2) : Go own cc nL rt ini fr lo tb ob Qf c0 s0 pc A B st u (if P then o1 else o2) := by
  by_cases h : P
  · rw [if_pos h]; exact g1 h
  · rw [if_neg h]; exact g2 h
theorem go_none {pc : Nat} : Go own cc nL rt ini fr lo tb ob Qf c0 s0 pc A B st u (none : Option (β × zM)) := fun b u' ho => by cases ho
/-! the calls, by sort and answer -/
theorem okv_I {r : Int32} {u1 : zM} : ∀ v, rvI r = some v → okV u1 v := fun v h => by cases h; exact okV_int
theorem okv_L {r : Int64} {u1 : zM} : ∀ v, rvL r = some v → okV u1 v := fun v h => by cases h; exact okV_long
theorem okv_V {r : Unit} {u1 : zM} : ∀ v, rvV r = some v → okV u1 v := fun v h => by cases h
theorem okv_R {k : Nat} {r : Option Nat} {u1 : zM} (h : obR k r u1) : ∀ v, rvR r = some v → okV u1 v := fun v e => by cases e; exact okV_rf.mpr fun n q => (h n q).1
theorem okv_N {k : Nat} {r : Nat} {u1 : zM} (h : obN k r u1) : ∀ v, rvN r = some v → okV u1 v := fun v e => by cases e; exact okV_ref.mpr h.1
theorem go_callV {α : Type} {rv : α → Option Value} {oba : α → zM → Prop} {idx n bn ci : Nat} {vs : List Value} {y : MethodName} {code : ByteArray} {nLy : Nat} {ret : Option FieldType} {fy ly : Nat} {F : zM → Option (α × zM)} {f : α → zM → Option (β × zM)} {stA : List Value} {C : String} {T : u_T} {N : Nat}
    (hM : zMet y code nLy ret fy ly rv oba (.ref bn :: vs) F) (hLV : zLV own idx y code nLy ret n) (hn : vs.length = n) (hcl : zCl[ci]? = some (C, T, N)) (hy : C = y.cls) (hci : ci < 13) (hk : kd bn = ci) (hfr : fy + 1 ≤ fr ∧ 8 + (nLy + 11) + ly ≤ lo) (hcat : (st.map fun v => v.category).sum ≤ 8) (d : decode cc pc = .ok (.invokevirtual idx, 3)) (hst : stA = (Value.ref bn :: vs).reverse ++ st)
    (g : ∀ (a : α) (u1 : zM), oba a u1 → (∀ v, rv a = some v → okV u1 v) ∧ Go own cc nL rt ini fr lo tb ob Qf c0 s0 (pc + 3) A B ((rv a).toList ++ st) u1 (f a u1)) : Go own cc nL rt ini fr lo tb ob Qf c0 s0 pc A B stA u (bd (F u) f) := by
  subst hst
  exact go_call hM rfl (fun K p l e R s m args below meth c H locs ls cells slots mc ms Pc Qc hc hls hC hvs hM' hbl hp hcs => runV hLV hn hcl hy hci hk hfr hcat d hc hls hC hvs hM' hbl hp hcs) g
theorem go_callVI {idx n bn ci : Nat} {vs : List Value} {y : MethodName} {code : ByteArray} {nLy : Nat} {ret : Option FieldType} {fy ly : Nat} {F : zM → Option (Int32 × zM)} {f : Int32 → zM → Option (β × zM)} {stA : List Value} {C : String} {T : u_T} {N : Nat}
    (hM : zMet y code nLy ret fy ly rvI obT (.ref bn :: vs) F) (hLV : zLV own idx y code nLy ret n) (hn : vs.length = n) (hcl : zCl[ci]? = some (C, T, N)) (hy : C = y.cls) (hci : ci < 13) (hk : kd bn = ci) (hfr : fy + 1 ≤ fr ∧ 8 + (nLy + 11) + ly ≤ lo) (hcat : (st.map fun v => v.category).sum ≤ 8) (d : decode cc pc = .ok (.invokevirtual idx, 3)) (hst : stA = (Value.ref bn :: vs).reverse ++ st)
    (g : ∀ (r : Int32) (u1 : zM), Go own cc nL rt ini fr lo tb ob Qf c0 s0 (pc + 3) A B (.int r :: st) u1 (f r u1)) : Go own cc nL rt ini fr lo tb ob Qf c0 s0 pc A B stA u (bd (F u) f) := go_callV hM hLV hn hcl hy hci hk hfr hcat d hst fun a u1 h => ⟨okv_I, g a u1⟩
theorem go_callVV {idx n bn ci : Nat} {vs : List Value} {y : MethodName} {code : ByteArray} {nLy : Nat} {ret : Option FieldType} {fy ly : Nat} {F : zM → Option (Unit × zM)} {f : Unit → zM → Option (β × zM)} {stA : List Value} {C : String} {T : u_T} {N : Nat}
    (hM : zMet y code nLy ret fy ly rvV obT (.ref bn :: vs) F) (hLV : zLV own idx y code nLy ret n) (hn : vs.length = n) (hcl : zCl[ci]? = some (C, T, N)) (hy : C = y.cls) (hci : ci < 13) (hk : kd bn = ci) (hfr : fy + 1 ≤ fr ∧ 8 + (nLy + 11) + ly ≤ lo) (hcat : (st.map fun v => v.category).sum ≤ 8) (d : decode cc pc = .ok (.invokevirtual idx, 3)) (hst : stA = (Value.ref bn :: vs).reverse ++ st)
    (g : ∀ (r : Unit) (u1 : zM), Go own cc nL rt ini fr lo tb ob Qf c0 s0 (pc + 3) A B st u1 (f r u1)) : Go own cc nL rt ini fr lo tb ob Qf c0 s0 pc A B stA u (bd (F u) f) := go_callV hM hLV hn hcl hy hci hk hfr hcat d hst fun a u1 h => ⟨okv_V, g a u1⟩
theorem go_callVR {k idx n bn ci : Nat} {vs : List Value} {y : MethodName} {code : ByteArray} {nLy : Nat} {ret : Option FieldType} {fy ly : Nat} {F : zM → Option (Option Nat × zM)} {f : Option Nat → zM → Option (β × zM)} {stA : List Value} {C : String} {T : u_T} {N : Nat}
    (hM : zMet y code nLy ret fy ly rvR (obR k) (.ref bn :: vs) F) (hLV : zLV own idx y code nLy ret n) (hn : vs.length = n) (hcl : zCl[ci]? = some (C, T, N)) (hy : C = y.cls) (hci : ci < 13) (hk : kd bn = ci) (hfr : fy + 1 ≤ fr ∧ 8 + (nLy + 11) + ly ≤ lo) (hcat : (st.map fun v => v.category).sum ≤ 8) (d : decode cc pc = .ok (.invokevirtual idx, 3)) (hst : stA = (Value.ref bn :: vs).reverse ++ st)
    (g : ∀ (r : Option Nat) (u1 : zM), (∀ n, r = some n → kd n = k) → Go own cc nL rt ini fr lo tb ob Qf c0 s0 (pc + 3) A B (va_rf r :: st) u1 (f r u1)) : Go own cc nL rt ini fr lo tb ob Qf c0 s0 pc A B stA u (bd (F u) f) := go_callV hM hLV hn hcl hy hci hk hfr hcat d hst fun a u1 h => ⟨okv_R h, g a u1 fun n q => (h n q).2⟩
theorem go_callS {α : Type} {rv : α → Option Value} {oba : α → zM → Prop} {idx n : Nat} {vs : List Value} {y : MethodName} {code : ByteArray} {nLy : Nat} {ret : Option FieldType} {fy ly : Nat} {F : zM → Option (α × zM)} {f : α → zM → Option (β × zM)} {stA : List Value}
    (hM : zMet y code nLy ret fy ly rv oba vs F) (hLV : zLS own idx y code nLy ret n) (hn : vs.length = n) (hfr : fy + 1 ≤ fr ∧ 8 + (nLy + 11) + ly ≤ lo) (hcat : (st.map fun v => v.category).sum ≤ 8) (d : decode cc pc = .ok (.invokestatic idx, 3)) (hst : stA = vs.reverse ++ st)
    (g : ∀ (a : α) (u1 : zM), oba a u1 → (∀ v, rv a = some v → okV u1 v) ∧ Go own cc nL rt ini fr lo tb ob Qf c0 s0 (pc + 3) A B ((rv a).toList ++ st) u1 (f a u1)) : Go own cc nL rt ini fr lo tb ob Qf c0 s0 pc A B stA u (bd (F u) f) := by
  subst hst
  exact go_call hM rfl (fun K p l e R s m args below meth c H locs ls cells slots mc ms Pc Qc hc hls hC hvs hM' hbl hp hcs => runS hLV hn hfr hcat d hc hls hM' hbl hp hcs) g
theorem go_callSI {idx n : Nat} {vs : List Value} {y : MethodName} {code : ByteArray} {nLy : Nat} {ret : Option FieldType} {fy ly : Nat} {F : zM → Option (Int32 × zM)} {f : Int32 → zM → Option (β × zM)} {stA : List Value}
    (hM : zMet y code nLy ret fy ly rvI obT vs F) (hLV : zLS own idx y code nLy ret n) (hn : vs.length = n) (hfr : fy + 1 ≤ fr ∧ 8 + (nLy + 11) + ly ≤ lo) (hcat : (st.map fun v => v.category).sum ≤ 8) (d : decode cc pc = .ok (.invokestatic idx, 3)) (hst : stA = vs.reverse ++ st)
    (g : ∀ (r : Int32) (u1 : zM), Go own cc nL rt ini fr lo tb ob Qf c0 s0 (pc + 3) A B (.int r :: st) u1 (f r u1)) : Go own cc nL rt ini fr lo tb ob Qf c0 s0 pc A B stA u (bd (F u) f) := go_callS hM hLV hn hfr hcat d hst fun a u1 h => ⟨okv_I, g a u1⟩
theorem go_callSL {idx n : Nat} {vs : List Value} {y : MethodName} {code : ByteArray} {nLy : Nat} {ret : Option FieldType} {fy ly : Nat} {F : zM → Option (Int64 × zM)} {f : Int64 → zM → Option (β × zM)} {stA : List Value}
    (hM : zMet y code nLy ret fy ly rvL obT vs F) (hLV : zLS own idx y code nLy ret n) (hn : vs.length = n) (hfr : fy + 1 ≤ fr ∧ 8 + (nLy + 11) + ly ≤ lo) (hcat : (st.map fun v => v.category).sum ≤ 8) (d : decode cc pc = .ok (.invokestatic idx, 3)) (hst : stA = vs.reverse ++ st)
    (g : ∀ (r : Int64) (u1 : zM), Go own cc nL rt ini fr lo tb ob Qf c0 s0 (pc + 3) A B (.long r :: st) u1 (f r u1)) : Go own cc nL rt ini fr lo tb ob Qf c0 s0 pc A B stA u (bd (F u) f) := go_callS hM hLV hn hfr hcat d hst fun a u1 h => ⟨okv_L, g a u1⟩
end GD
section GE
variable {β : Type} {own : String} {cc : ByteArray} {nL : Nat} {rt : Option FieldType} {ini : Bool} {fr lo : Nat} {tb : List ExceptionTableEntry} {ob : β → zM → Prop} {Qf : zQf β} {c0 s0 pc : Nat} {A : List (Nat × Value)} {B : List (Nat × Int64)} {st : List Value} {u : zM} {o : Option (β × zM)}
/-- a constructor's call -/
def zLI (own : String) (idx : Nat) (y : MethodName) (code : ByteArray) (nLy n : Nat) : Prop := GoodIn lw_all (ws_ y code nLy none) ∧ Cond.initialized y.cls ∈ lw_all ∧ Cond.methodLink own idx y ∈ lw_all ∧ Cond.instanceMethod y ∈ lw_all ∧ y.name = "<init>" ∧ y.cls ≠ "java/lang/invoke/MethodHandle" ∧ y.cls ≠ "java/lang/invoke/VarHandle" ∧ (parseMethodDescriptor y.desc).map (fun d => d.parameters.length) = some n
/-- a nest mate's method: k 0 through an object, 1 static, 2 a constructor -/
def zLN (k : Nat) (own : String) (idx : Nat) (y : MethodName) (host : String) (code : ByteArray) (nLy : Nat) (ret : Option FieldType) (n : Nat) : Prop := GoodIn lw_all (ws_ y code nLy ret) ∧ (own, idx, y, host) ∈ zNm ∧ Cond.initialized y.cls ∈ lw_all ∧ (k = 0 → Cond.instanceMethod y ∈ lw_all ∧ Cond.selects y.cls y y ∈ lw_all) ∧ (k = 1 → Cond.static y ∈ lw_all) ∧ (k = 2 → y.name = "<init>" ∧ Cond.instanceMethod y ∈ lw_all) ∧ y.cls ≠ "java/lang/invoke/MethodHandle" ∧ y.cls ≠ "java/lang/invoke/VarHandle" ∧ (parseMethodDescriptor y.desc).map (fun d => d.parameters.length) = some n
theorem go_callI {idx n bn : Nat} {vs : List Value} {y : MethodName} {code : ByteArray} {nLy : Nat} {fy ly : Nat} {F : zM → Option (Unit × zM)} {f : Unit → zM → Option (β × zM)} {stA : List Value}
    (hM : zMet y code nLy none fy ly rvV obT (.ref bn :: vs) F) (hLI : zLI own idx y code nLy n) (hn : vs.length = n) (hfr : fy + 1 ≤ fr ∧ 8 + (nLy + 11) + ly ≤ lo) (hcat : (st.map fun v => v.category).sum ≤ 8) (d : decode cc pc = .ok (.invokespecial idx, 3)) (hst : stA = (Value.ref bn :: vs).reverse ++ st)
    (g : ∀ (r : Unit) (u1 : zM), Go own cc nL rt ini fr lo tb ob Qf c0 s0 (pc + 3) A B st u1 (f r u1)) : Go own cc nL rt ini fr lo tb ob Qf c0 s0 pc A B stA u (bd (F u) f) := by
  subst hst
  refine go_call hM rfl (fun K p l e R s m args below meth c H locs ls cells slots mc ms Pc Qc hc hls hC hvs hM' hbl hp hcs => ?_) (fun a u1 h => ⟨okv_V, g a u1⟩)
  obtain ⟨h1, h2, h3, h4, h5, h6⟩ := hLI
  have hts := hc.2.2.2.2.2.1
  refine va_runI (As := vs.map (cv K u)) (rest := st.map (cv K u)) ⟨hc.1, hc.2.1, hc.2.2.2.1, hc.2.2.2.2.1, hts⟩ hM' (cwI n hts h1 rfl rfl rfl (hts _ h2) (hts _ h3) (hts _ h4) h5 h6 ⟨Nat.le_trans hfr.1 hc.2.2.2.2.2.2.2.2.1, Nat.le_trans hfr.2 hc.2.2.2.2.2.2.2.2.2.1⟩) ⟨hbl, hp⟩ rfl (by rw [List.length_map]; exact hn) hls ?_ (lv_room (cats_cv hcat)) d hcs
  show ((Value.ref bn :: vs).reverse ++ st).map (cv K u) = _
  rw [List.reverse_cons, List.append_assoc, List.map_append, List.map_reverse]
  rfl
theorem go_callIN {idx n bn : Nat} {host : String} {vs : List Value} {y : MethodName} {code : ByteArray} {nLy : Nat} {fy ly : Nat} {F : zM → Option (Unit × zM)} {f : Unit → zM → Option (β × zM)} {stA : List Value}
    (hM : zMet y code nLy none fy ly rvV obT (.ref bn :: vs) F) (hLN : zLN 2 own idx y host code nLy none n) (hn : vs.length = n) (hfr : fy + 1 ≤ fr ∧ 8 + (nLy + 11) + ly ≤ lo) (hcat : (st.map fun v => v.category).sum ≤ 8) (d : decode cc pc = .ok (.invokespecial idx, 3)) (hst : stA = (Value.ref bn :: vs).reverse ++ st)
    (g : ∀ (r : Unit) (u1 : zM), Go own cc nL rt ini fr lo tb ob Qf c0 s0 (pc + 3) A B st u1 (f r u1)) : Go own cc nL rt ini fr lo tb ob Qf c0 s0 pc A B stA u (bd (F u) f) := by
  subst hst
  refine go_call hM rfl (fun K p l e R s m args below meth c H locs ls cells slots mc ms Pc Qc hc hls hC hvs hM' hbl hp hcs => ?_) (fun a u1 h => ⟨okv_V, g a u1⟩)
  obtain ⟨h1, h2, h3, -, -, h5, h6⟩ := hLN
  have hts := hc.2.2.2.2.2.1
  refine va_runIN (As := vs.map (cv K u)) (rest := st.map (cv K u)) ⟨hc.1, hc.2.1, hc.2.2.2.1, hc.2.2.2.2.1, hts⟩ hM' ⟨va_cnB n hts h1 rfl rfl rfl (hc.2.2.2.2.2.2.2.2.2.2.1.2.2.1 _ h2) (hts _ h3) h6 ⟨Nat.le_trans hfr.1 hc.2.2.2.2.2.2.2.2.1, Nat.le_trans hfr.2 hc.2.2.2.2.2.2.2.2.2.1⟩, (h5 rfl).1, hts _ (h5 rfl).2⟩ ⟨hbl, hp⟩ rfl (by rw [List.length_map]; exact hn) hls ?_ (lv_room (cats_cv hcat)) d hcs
  show ((Value.ref bn :: vs).reverse ++ st).map (cv K u) = _
  rw [List.reverse_cons, List.append_assoc, List.map_append, List.map_reverse]
  rfl
theorem go_callSN {α : Type} {rv : α → Option Value} {oba : α → zM → Prop} {idx n : Nat} {host : String} {vs : List Value} {y : MethodName} {code : ByteArray} {nLy : Nat} {ret : Option FieldType} {fy ly : Nat} {F : zM → Option (α × zM)} {f : α → zM → Option (β × zM)} {stA : List Value}
    (hM : zMet y code nLy ret fy ly rv oba vs F) (hLN : zLN 1 own idx y host code nLy ret n) (hn : vs.length = n) (hfr : fy + 1 ≤ fr ∧ 8 + (nLy + 11) + ly ≤ lo) (hcat : (st.map fun v => v.category).sum ≤ 8) (d : decode cc pc = .ok (.invokestatic idx, 3)) (hst : stA = vs.reverse ++ st)
    (g : ∀ (a : α) (u1 : zM), oba a u1 → (∀ v, rv a = some v → okV u1 v) ∧ Go own cc nL rt ini fr lo tb ob Qf c0 s0 (pc + 3) A B ((rv a).toList ++ st) u1 (f a u1)) : Go own cc nL rt ini fr lo tb ob Qf c0 s0 pc A B stA u (bd (F u) f) := by
  subst hst
  refine go_call hM rfl (fun K p l e R s m args below meth c H locs ls cells slots mc ms Pc Qc hc hls hC hvs hM' hbl hp hcs => ?_) g
  obtain ⟨h1, h2, h3, -, h5, -, h6⟩ := hLN
  have hts := hc.2.2.2.2.2.1
  exact va_runSN (As := vs.map (cv K u)) (rest := st.map (cv K u)) ⟨hc.1, hc.2.1, hc.2.2.2.1, hc.2.2.2.2.1, hts⟩ hM' ⟨va_cnB n hts h1 rfl rfl rfl (hc.2.2.2.2.2.2.2.2.2.2.1.2.2.1 _ h2) (hts _ h3) h6 ⟨Nat.le_trans hfr.1 hc.2.2.2.2.2.2.2.2.1, Nat.le_trans hfr.2 hc.2.2.2.2.2.2.2.2.2.1⟩, hts _ (h5 rfl), trivial⟩ ⟨hbl, hp⟩ rfl (by rw [List.length_map]; exact hn) hls zl_map (lv_room (cats_cv hcat)) d hcs
theorem go_callSNI {idx n : Nat} {host : String} {vs : List Value} {y : MethodName} {code : ByteArray} {nLy : Nat} {ret : Option FieldType} {fy ly : Nat} {F : zM → Option (Int32 × zM)} {f : Int32 → zM → Option (β × zM)} {stA : List Value}
    (hM : zMet y code nLy ret fy ly rvI obT vs F) (hLN : zLN 1 own idx y host code nLy ret n) (hn : vs.length = n) (hfr : fy + 1 ≤ fr ∧ 8 + (nLy + 11) + ly ≤ lo) (hcat : (st.map fun v => v.category).sum ≤ 8) (d : decode cc pc = .ok (.invokestatic idx, 3)) (hst : stA = vs.reverse ++ st)
    (g : ∀ (r : Int32) (u1 : zM), Go own cc nL rt ini fr lo tb ob Qf c0 s0 (pc + 3) A B (.int r :: st) u1 (f r u1)) : Go own cc nL rt ini fr lo tb ob Qf c0 s0 pc A B stA u (bd (F u) f) := go_callSN hM hLN hn hfr hcat d hst fun a u1 h => ⟨okv_I, g a u1⟩
theorem go_callVN {α : Type} {rv : α → Option Value} {oba : α → zM → Prop} {idx n bn ci : Nat} {host : String} {vs : List Value} {y : MethodName} {code : ByteArray} {nLy : Nat} {ret : Option FieldType} {fy ly : Nat} {F : zM → Option (α × zM)} {f : α → zM → Option (β × zM)} {stA : List Value} {C : String} {T : u_T} {N : Nat}
    (hM : zMet y code nLy ret fy ly rv oba (.ref bn :: vs) F) (hLN : zLN 0 own idx y host code nLy ret n) (hn : vs.length = n) (hcl : zCl[ci]? = some (C, T, N)) (hy : C = y.cls) (hci : ci < 13) (hk : kd bn = ci) (hfr : fy + 1 ≤ fr ∧ 8 + (nLy + 11) + ly ≤ lo) (hcat : (st.map fun v => v.category).sum ≤ 8) (d : decode cc pc = .ok (.invokevirtual idx, 3)) (hst : stA = (Value.ref bn :: vs).reverse ++ st)
    (g : ∀ (a : α) (u1 : zM), oba a u1 → (∀ v, rv a = some v → okV u1 v) ∧ Go own cc nL rt ini fr lo tb ob Qf c0 s0 (pc + 3) A B ((rv a).toList ++ st) u1 (f a u1)) : Go own cc nL rt ini fr lo tb ob Qf c0 s0 pc A B stA u (bd (F u) f) := by
  subst hst
  subst hy
  refine go_call hM rfl (fun K p l e R s m args below meth c H locs ls cells slots mc ms Pc Qc hc hls hC hvs hM' hbl hp hcs => ?_) g
  obtain ⟨h1, h2, h3, h4, -, -, h6⟩ := hLN
  have hts := hc.2.2.2.2.2.1
  have hn' : al u bn := okV_ref.mp (okS_cons.mp hvs).1
  have hrecv : ∃ cell : Cell, H[ad K u bn]? = some cell ∧ cell.vm.isStatics = false ∧ s.vm.findClass y.cls = some cell.cls := by
    obtain ⟨r', hr', cellV, g1, g2, g3, -⟩ := zAt_obj hC hn' hk hci
    exact ⟨cellV, g1, by rw [g3]; rfl, by rw [g2]; exact (hc.2.2.2.2.2.2.2.2.2.2.1.1.1 ci _ hcl).2.1⟩
  refine va_runVN (As := vs.map (cv K u)) (rest := st.map (cv K u)) (C := y.cls) ⟨hc.1, hc.2.1, hc.2.2.2.1, hc.2.2.2.2.1, hts⟩ hM' ⟨va_cnB n hts h1 rfl rfl rfl (hc.2.2.2.2.2.2.2.2.2.2.1.2.2.1 _ h2) (hts _ h3) h6 ⟨Nat.le_trans hfr.1 hc.2.2.2.2.2.2.2.2.1, Nat.le_trans hfr.2 hc.2.2.2.2.2.2.2.2.2.1⟩, hts _ (h4 rfl).1, hts _ (h4 rfl).2⟩ ⟨hbl, hrecv, hp⟩ rfl (by rw [List.length_map]; exact hn) hls ?_ (lv_room (cats_cv hcat)) d hcs
  show ((Value.ref bn :: vs).reverse ++ st).map (cv K u) = _
  rw [List.reverse_cons, List.append_assoc, List.map_append, List.map_reverse]
  rfl
theorem go_callVNI {idx n bn ci : Nat} {host : String} {vs : List Value} {y : MethodName} {code : ByteArray} {nLy : Nat} {ret : Option FieldType} {fy ly : Nat} {F : zM → Option (Int32 × zM)} {f : Int32 → zM → Option (β × zM)} {stA : List Value} {C : String} {T : u_T} {N : Nat}
    (hM : zMet y code nLy ret fy ly rvI obT (.ref bn :: vs) F) (hLN : zLN 0 own idx y host code nLy ret n) (hn : vs.length = n) (hcl : zCl[ci]? = some (C, T, N)) (hy : C = y.cls) (hci : ci < 13) (hk : kd bn = ci) (hfr : fy + 1 ≤ fr ∧ 8 + (nLy + 11) + ly ≤ lo) (hcat : (st.map fun v => v.category).sum ≤ 8) (d : decode cc pc = .ok (.invokevirtual idx, 3)) (hst : stA = (Value.ref bn :: vs).reverse ++ st)
    (g : ∀ (r : Int32) (u1 : zM), Go own cc nL rt ini fr lo tb ob Qf c0 s0 (pc + 3) A B (.int r :: st) u1 (f r u1)) : Go own cc nL rt ini fr lo tb ob Qf c0 s0 pc A B stA u (bd (F u) f) := go_callVN hM hLN hn hcl hy hci hk hfr hcat d hst fun a u1 h => ⟨okv_I, g a u1⟩
theorem go_callVNR {k idx n bn ci : Nat} {host : String} {vs : List Value} {y : MethodName} {code : ByteArray} {nLy : Nat} {ret : Option FieldType} {fy ly : Nat} {F : zM → Option (Option Nat × zM)} {f : Option Nat → zM → Option (β × zM)} {stA : List Value} {C : String} {T : u_T} {N : Nat}
    (hM : zMet y code nLy ret fy ly rvR (obR k) (.ref bn :: vs) F) (hLN : zLN 0 own idx y host code nLy ret n) (hn : vs.length = n) (hcl : zCl[ci]? = some (C, T, N)) (hy : C = y.cls) (hci : ci < 13) (hk : kd bn = ci) (hfr : fy + 1 ≤ fr ∧ 8 + (nLy + 11) + ly ≤ lo) (hcat : (st.map fun v => v.category).sum ≤ 8) (d : decode cc pc = .ok (.invokevirtual idx, 3)) (hst : stA = (Value.ref bn :: vs).reverse ++ st)
    (g : ∀ (r : Option Nat) (u1 : zM), (∀ n, r = some n → kd n = k) → Go own cc nL rt ini fr lo tb ob Qf c0 s0 (pc + 3) A B (va_rf r :: st) u1 (f r u1)) : Go own cc nL rt ini fr lo tb ob Qf c0 s0 pc A B stA u (bd (F u) f) := go_callVN hM hLN hn hcl hy hci hk hfr hcat d hst fun a u1 h => ⟨okv_R h, g a u1 fun n q => (h n q).2⟩
end GE
theorem lv_args_map (K : zK) (u : zM) : ∀ (vs : List Value) (i : Nat), lv_args i (vs.map (cv K u)) = (lv_args i vs).map (fun q => (q.1, cv K u q.2))
  | [], i => rfl
  | v :: vs, i => by
    show (i, cv K u v) :: lv_args (if (cv K u v).category = 2 then i + 2 else i + 1) (vs.map (cv K u)) = _
    rw [cat_cv, lv_args_map K u vs]
    rfl
theorem lv_args_mem : ∀ (vs : List Value) (i : Nat) (q : Nat × Value), q ∈ lv_args i vs → q.2 ∈ vs
  | [], i, q, h => by cases h
  | v :: vs, i, q, h => by
    rcases List.mem_cons.mp h with e | e
    · rw [e]; exact List.mem_cons_self
    · exact List.mem_cons_of_mem _ (lv_args_mem vs _ q e)
theorem lg_sl_len (K : zK) (u : zM) : ∀ vs : List Value, (lg_sl (vs.map (cv K u))).length = (lg_sl vs).length
  | [] => rfl
  | v :: vs => by
    have h := lg_sl_len K u vs
    simp only [lg_sl, List.map_cons, List.flatMap_cons, List.length_append] at h ⊢
    rw [h, cat_cv]
    split <;> rfl
/-- THE CONTRACT OUT OF THE BODY'S WALK -/
theorem zMet_of {β : Type} {y : MethodName} {cc : ByteArray} {nL : Nat} {rt : Option FieldType} {ini : Bool} {fr lo : Nat} {ob : β → zM → Prop} {rv : β → Option Value} {vs : List Value} {F : zM → Option (β × zM)} {A : List (Nat × Value)} {B : List (Nat × Int64)} (own : String) (hown : y.cls = own) (hy : plainName y.cls = true) (hini : ini = true → y.name = "<init>") (hlen : (lg_sl vs).length ≤ nL)
    (hA : ∀ q ∈ A, q ∈ lv_args 0 vs ∧ q.2.category = 1) (hU : aUq A = true) (hB : ∀ q ∈ B, (q.1, Value.long q.2) ∈ lv_args 0 vs)
    (g : ∀ u : zM, Go own cc nL rt ini fr lo [] ob (zQ rv) (mC u) (mS u) 0 A B [] u (F u)) : zMet y cc nL rt fr lo rv ob vs F := by
  intro u b u' hF hwf hvs
  obtain ⟨h1, h2⟩ := g u b u' hF hwf ⟨fun q hq => ⟨hvs _ (lv_args_mem vs 0 q (hA q hq).1), (hA q hq).2⟩, hU⟩ okS_nil
  refine ⟨h1, fun K l => ?_⟩
  refine MetFree.of_bodyS (code := cc) (maxLocals := nL) (ret := rt) hy ?_ ?_
  · intro args s m h hn
    obtain ⟨meth, c, h1, h2, h3, h4, h5, h6, -, -⟩ := Cond.code_spec hn (atoms_spec (ws := ws_ y cc nL rt) h _ List.mem_cons_self)
    exact ⟨meth, c, h1, h2, h3, h4, h5, h6⟩
  · intro p e s m args below meth c s₁ B' hml hP _
    have hh0 : s₁.heap = s.heap := by rw [B'.state]; rfl
    have ht : c.exceptionTable.toList = [] := by
      obtain ⟨meth9, c9, h1, h2, -, -, -, -, h7, -⟩ := Cond.code_spec B'.named (atoms_spec (ws := ws_ y cc nL rt) B'.pre _ List.mem_cons_self)
      cases Option.some.inj (h1.symm.trans B'.method)
      cases Option.some.inj (h2.symm.trans (Stand.of_body B').code)
      rw [Array.isEmpty_iff.mp h7]
    obtain ⟨rfl, hKU, hC⟩ := hP
    have hts := atoms_spec (ws := ws_ y cc nL rt) B'.pre
    have hts : ∀ w ∈ lw_all, w.before _ s = true := fun w h => hts w (List.mem_cons_of_mem _ h)
    have hl := lv_entry (vs.map (cv K u)) (n := nL) (by rw [lg_sl_len]; exact hlen)
    have hL : lzHas K u ((lg_sl (vs.map (cv K u)) ++ List.replicate (nL - (lg_sl (vs.map (cv K u))).length) Slot.unset).toArray) nL A B := by
      refine ⟨hl.1, hl.2.1, fun q hq => hl.2.2 q ?_⟩
      rw [lv_args_map]
      rcases List.mem_append.mp hq with z | z
      · obtain ⟨w, hw, rfl⟩ := List.mem_map.mp z
        exact List.mem_map.mpr ⟨w, (hA w hw).1, rfl⟩
      · obtain ⟨w, hw, rfl⟩ := List.mem_map.mp z
        exact List.mem_map.mpr ⟨_, hB w hw, rfl⟩
    have k := h2 K p l e (headSpec (ws_ y cc nL rt) ({ frames := fr, cells := mC u' - mC u, slots := mS u' - mS u, locals := lo })).room s m _ below meth c s.heap [] _ ⟨B'.exec, B'.bytes, B'.returns, hml, by rw [← hown]; exact findClass_of_methodNamed B'.named, hts, B'.notSynchronized, fun h => by rw [← hini h]; exact (name_of_methodNamed B'.named B'.method).1, Nat.le_refl _, Nat.le_refl _, hKU, ht⟩ (Nat.le_refl _) (Nat.le_refl _) (Nat.le_refl _) (Nat.le_refl _) hC va_S.rf hL
    rw [Nat.sub_self, Nat.sub_self] at k
    rw [← hh0] at k
    rw [List.map_nil, ← lg_entry_eq] at k
    obtain ⟨t, a1, o, b1, b2, b3⟩ := k s₁ rfl (Stand.of_body B')
    exact ⟨t, o, a1, b1, b2, ⟨b3.1, b3.2⟩⟩
theorem cat_int (x : Int32) : (Value.int x).category = 1 := rfl
theorem cat_ref (x : Nat) : (Value.ref x).category = 1 := rfl
theorem cat_long (x : Int64) : (Value.long x).category = 2 := rfl
theorem sw_eq {x v : Int32} (h : x.toInt = v.toInt) : x = v := Int32.toInt_inj.mp h
def zFu : Nat := 1000
def gzL {γ : Type} (y : Int64) (o : Option γ) : Option γ := if y = 0 then none else o
section GF
variable {β : Type} {own : String} {cc : ByteArray} {nL : Nat} {rt : Option FieldType} {ini : Bool} {fr lo : Nat} {tb : List ExceptionTableEntry} {ob : β → zM → Prop} {Qf : zQf β} {c0 s0 pc : Nat} {A : List (Nat × Value)} {B : List (Nat × Int64)} {st : List Value} {u : zM} {o : Option (β × zM)}
theorem go_tableD {dflt lo' hi : Int} {offs : Array Int} {len : Nat} {x : Int32} {tgt : Nat} (d : decode cc pc = .ok (.tableswitch dflt lo' hi offs, len)) (ht : (pc : Int) + dflt = (tgt : Int)) (h : ¬ x.toInt < lo' → ¬ hi < x.toInt → offs[(x.toInt - lo').toNat]? = some dflt) (g : Go own cc nL rt ini fr lo tb ob Qf c0 s0 tgt A B st u o) : Go own cc nL rt ini fr lo tb ob Qf c0 s0 pc A B (.int x :: st) u o := by
  by_cases h1 : x.toInt < lo'
  · exact go_tableOut d (Or.inl h1) ht g
  · by_cases h2 : hi < x.toInt
    · exact go_tableOut d (Or.inr h2) ht g
    · exact go_tableIn x rfl d h1 h2 (h h1 h2) ht g
theorem go_gzL {y : Int64} {o : Option (β × zM)} {st0 : List Value} (g : ¬ y = 0 → Go own cc nL rt ini fr lo tb ob Qf c0 s0 pc A B st0 u o) : Go own cc nL rt ini fr lo tb ob Qf c0 s0 pc A B st0 u (gzL y o) := by
  intro b u' ho
  unfold gzL at ho
  split at ho
  · cases ho
  · rename_i h
    exact g h b u' ho
theorem go_lreturn {v : Int64} (hrt : rt = some .long) (d : decode cc pc = .ok (.lreturn, 1)) : Go (β := Int64) own cc nL rt ini fr lo tb obT (zQ rvL) c0 s0 pc A B [.long v] u (some (v, u)) :=
  go_end (stE := [.long v]) (b := v) (rv := rvL) (fun _ _ => trivial) (fun K p l e R s m args below meth c H locs ls cells slots Qc hc hq hf => W.lret hc.1 hc.2.1 (hc.2.2.1.trans hrt) hq hf d hc.2.2.2.2.2.2.1)
theorem go_mmaxI {idx : Nat} {x y : Int32} (d : decode cc pc = .ok (.invokestatic idx, 3)) (hl : Cond.methodLink own idx Lib.Math.max.name ∈ lw_all) (h2 : Cond.static Lib.Math.max.name ∈ lw_all) (h3 : Cond.initialized "java/lang/Math" ∈ lw_all) (h4 : Cond.code Lib.Math.max.name Lib.Math.max.code 2 (some .int) ∈ lw_all) (hfr : 1 ≤ fr) (hlo : (st.map fun v => v.category).sum + 20 ≤ lo) (g : Go own cc nL rt ini fr lo tb ob Qf c0 s0 (pc + 3) A B (.int (if x < y then y else x) :: st) u o) : Go own cc nL rt ini fr lo tb ob Qf c0 s0 pc A B (.int y :: .int x :: st) u o := by
  intro b u' ho hwf hA hS
  obtain ⟨h1', h2'⟩ := g b u' ho hwf hA (okS_cons.mpr ⟨okV_int, (okS_cons.mp (okS_cons.mp hS).2).2⟩)
  refine ⟨h1', fun K p l e R s m args below meth c H locs ls hc q1 q2 q3 q4 hC hV hL => ?_⟩
  have hts := hc.2.2.2.2.2.1
  have e1 : (st.map (cv K u)).map (fun v => v.category) = st.map (fun v => v.category) := by
    rw [List.map_map]
    exact List.map_congr_left fun v _ => cat_cv v
  have z1 := h1'.2.1.1
  have z2 := h1'.2.1.2.1
  have z3 := hc.2.2.2.2.2.2.2.2.2.1
  exact va_mmax hc.1 hc.2.1 (hc.2.2.2.1.trans hL.1.symm) hc.2.2.2.2.1 (hts _ hl) (hts _ h2) (hts _ h3) (hts _ h4) (Nat.le_trans hfr hc.2.2.2.2.2.2.2.2.1) (by rw [e1]; omega) (by omega) (by omega) d (h2' K p l e R s m args below meth c H locs ls hc q1 q2 q3 q4 hC hV hL)
theorem go_mminI {idx : Nat} {x y : Int32} (d : decode cc pc = .ok (.invokestatic idx, 3)) (hl : Cond.methodLink own idx Lib.Math.min.name ∈ lw_all) (h2 : Cond.static Lib.Math.min.name ∈ lw_all) (h3 : Cond.initialized "java/lang/Math" ∈ lw_all) (h4 : Cond.code Lib.Math.min.name Lib.Math.min.code 2 (some .int) ∈ lw_all) (hfr : 1 ≤ fr) (hlo : (st.map fun v => v.category).sum + 20 ≤ lo) (g : Go own cc nL rt ini fr lo tb ob Qf c0 s0 (pc + 3) A B (.int (if y < x then y else x) :: st) u o) : Go own cc nL rt ini fr lo tb ob Qf c0 s0 pc A B (.int y :: .int x :: st) u o := by
  intro b u' ho hwf hA hS
  obtain ⟨h1', h2'⟩ := g b u' ho hwf hA (okS_cons.mpr ⟨okV_int, (okS_cons.mp (okS_cons.mp hS).2).2⟩)
  refine ⟨h1', fun K p l e R s m args below meth c H locs ls hc q1 q2 q3 q4 hC hV hL => ?_⟩
  have hts := hc.2.2.2.2.2.1
  have e1 : (st.map (cv K u)).map (fun v => v.category) = st.map (fun v => v.category) := by
    rw [List.map_map]
    exact List.map_congr_left fun v _ => cat_cv v
  have z1 := h1'.2.1.1
  have z2 := h1'.2.1.2.1
  have z3 := hc.2.2.2.2.2.2.2.2.2.1
  exact va_mmin hc.1 hc.2.1 (hc.2.2.2.1.trans hL.1.symm) hc.2.2.2.2.1 (hts _ hl) (hts _ h2) (hts _ h3) (hts _ h4) (Nat.le_trans hfr hc.2.2.2.2.2.2.2.2.1) (by rw [e1]; omega) (by omega) (by omega) d (h2' K p l e R s m args below meth c H locs ls hc q1 q2 q3 q4 hC hV hL)
theorem go_mmaxL {idx : Nat} {x y : Int64} (d : decode cc pc = .ok (.invokestatic idx, 3)) (hl : Cond.methodLink own idx Lib.MathLoose.max_long.x ∈ lw_all) (h2 : Cond.static Lib.MathLoose.max_long.x ∈ lw_all) (h3 : Cond.initialized "java/lang/Math" ∈ lw_all) (h4 : Cond.code Lib.MathLoose.max_long.x Lib.MathLoose.max_long.code 4 (some .long) ∈ lw_all) (hfr : 1 ≤ fr) (hlo : (st.map fun v => v.category).sum + 20 ≤ lo) (g : Go own cc nL rt ini fr lo tb ob Qf c0 s0 (pc + 3) A B (.long (if y < x then x else y) :: st) u o) : Go own cc nL rt ini fr lo tb ob Qf c0 s0 pc A B (.long y :: .long x :: st) u o := by
  intro b u' ho hwf hA hS
  obtain ⟨h1', h2'⟩ := g b u' ho hwf hA (okS_cons.mpr ⟨okV_long, (okS_cons.mp (okS_cons.mp hS).2).2⟩)
  refine ⟨h1', fun K p l e R s m args below meth c H locs ls hc q1 q2 q3 q4 hC hV hL => ?_⟩
  have hts := hc.2.2.2.2.2.1
  have e1 : (st.map (cv K u)).map (fun v => v.category) = st.map (fun v => v.category) := by
    rw [List.map_map]
    exact List.map_congr_left fun v _ => cat_cv v
  have z1 := h1'.2.1.1
  have z2 := h1'.2.1.2.1
  have z3 := hc.2.2.2.2.2.2.2.2.2.1
  exact va_mmax_long hc.1 hc.2.1 (hc.2.2.2.1.trans hL.1.symm) hc.2.2.2.2.1 (hts _ hl) (hts _ h2) (hts _ h3) (hts _ h4) (Nat.le_trans hfr hc.2.2.2.2.2.2.2.2.1) (by rw [e1]; omega) (by omega) (by omega) d (h2' K p l e R s m args below meth c H locs ls hc q1 q2 q3 q4 hC hV hL)
theorem go_mminL {idx : Nat} {x y : Int64} (d : decode cc pc = .ok (.invokestatic idx, 3)) (hl : Cond.methodLink own idx Lib.MathLoose.min_long.x ∈ lw_all) (h2 : Cond.static Lib.MathLoose.min_long.x ∈ lw_all) (h3 : Cond.initialized "java/lang/Math" ∈ lw_all) (h4 : Cond.code Lib.MathLoose.min_long.x Lib.MathLoose.min_long.code 4 (some .long) ∈ lw_all) (hfr : 1 ≤ fr) (hlo : (st.map fun v => v.category).sum + 20 ≤ lo) (g : Go own cc nL rt ini fr lo tb ob Qf c0 s0 (pc + 3) A B (.long (if y < x then y else x) :: st) u o) : Go own cc nL rt ini fr lo tb ob Qf c0 s0 pc A B (.long y :: .long x :: st) u o := by
  intro b u' ho hwf hA hS
  obtain ⟨h1', h2'⟩ := g b u' ho hwf hA (okS_cons.mpr ⟨okV_long, (okS_cons.mp (okS_cons.mp hS).2).2⟩)
  refine ⟨h1', fun K p l e R s m args below meth c H locs ls hc q1 q2 q3 q4 hC hV hL => ?_⟩
  have hts := hc.2.2.2.2.2.1
  have e1 : (st.map (cv K u)).map (fun v => v.category) = st.map (fun v => v.category) := by
    rw [List.map_map]
    exact List.map_congr_left fun v _ => cat_cv v
  have z1 := h1'.2.1.1
  have z2 := h1'.2.1.2.1
  have z3 := hc.2.2.2.2.2.2.2.2.2.1
  exact va_mmin_long hc.1 hc.2.1 (hc.2.2.2.1.trans hL.1.symm) hc.2.2.2.2.1 (hts _ hl) (hts _ h2) (hts _ h3) (hts _ h4) (Nat.le_trans hfr hc.2.2.2.2.2.2.2.2.1) (by rw [e1]; omega) (by omega) (by omega) d (h2' K p l e R s m args below meth c H locs ls hc q1 q2 q3 q4 hC hV hL)
/-- a String constant is loaded -/
theorem go_ldcS {i k : Nat} {tx : String} (d : decode cc pc = .ok (.ldc i, 2)) (hq : zStr[k]? = some (own, i, tx)) (g : Go own cc nL rt ini fr lo tb ob Qf c0 s0 (pc + 2) A B (.ref (nm 27 k) :: st) u o) : Go own cc nL rt ini fr lo tb ob Qf c0 s0 pc A B st u o := by
  have hk : k < 27 := (List.getElem?_eq_some_iff.mp hq).1
  refine go_pure (pc' := pc + 2) (st := st) (st' := .ref (nm 27 k) :: st) (fun hwf hA hS => okS_cons.mpr ⟨okV_ref.mpr (hwf.2.1 k hk).1, hS⟩) (fun K p l e R s m args below meth c H locs ls cells slots Q hc hL hwf hS hC kk => ?_) g
  have e1 : ad K u (nm 27 k) = K.2.2.1 k := by unfold ad; rw [if_pos (by rw [kd_nm]), nK_nm (by decide)]
  refine va_ldcS hc.1 hc.2.1 hc.2.2.2.2.1 (hc.2.2.2.2.2.2.2.2.2.2.1.2.2.2.2.2.2 k _ hq) d ?_
  rw [← e1]; exact kk
theorem va_ldcWS {p : Program} {l : Launch} {e : Env} {R : Room} {s : State} {m : MethodId} {args : Array Value} {below : List Frame} {meth : Method} {c : Code} {H : Heap} {locs : List Loc} {cells slots : Nat} {Q : State → Prop} {ls : Array Slot} {rest : List Value} (hexec : p.tables.exec = Jvm.exec) (hb : c.code = cc) {own tx : String} {index q : Nat} (hown : s.vm.findClass own = some m.cls) (hZ : vk_R own index tx q s) (hdg : decode cc pc = .ok (.ldc_w index, 3))
    (k : W p l e R s m args below meth c H locs cells slots Q (F0 m (pc + 3) ls (.ref q :: rest))) : W p l e R s m args below meth c H locs cells slots Q (F0 m pc ls rest) := by
  intro T hT X
  obtain ⟨t, a1, b1⟩ := k T hT X
  exact ⟨t, X.ldcStringW hexec hown (text := tx) (a := q) hZ.1 hZ.2 (g := F0 m pc ls rest) rfl (by rw [hb]; exact hdg) t a1, b1⟩
theorem go_ldcwS {i k : Nat} {tx : String} (d : decode cc pc = .ok (.ldc_w i, 3)) (hq : zStr[k]? = some (own, i, tx)) (g : Go own cc nL rt ini fr lo tb ob Qf c0 s0 (pc + 3) A B (.ref (nm 27 k) :: st) u o) : Go own cc nL rt ini fr lo tb ob Qf c0 s0 pc A B st u o := by
  have hk : k < 27 := (List.getElem?_eq_some_iff.mp hq).1
  refine go_pure (pc' := pc + 3) (st := st) (st' := .ref (nm 27 k) :: st) (fun hwf hA hS => okS_cons.mpr ⟨okV_ref.mpr (hwf.2.1 k hk).1, hS⟩) (fun K p l e R s m args below meth c H locs ls cells slots Q hc hL hwf hS hC kk => ?_) g
  have e1 : ad K u (nm 27 k) = K.2.2.1 k := by unfold ad; rw [if_pos (by rw [kd_nm]), nK_nm (by decide)]
  refine va_ldcWS hc.1 hc.2.1 hc.2.2.2.2.1 (hc.2.2.2.2.2.2.2.2.2.2.1.2.2.2.2.2.2 k _ hq) d ?_
  rw [← e1]; exact kk
/-- a String's name -/
theorem str_nm {n : Nat} (hwf : zWf u) (h : al u n) (hk : kd n = 27) : nK n < 27 ∧ nm 27 (nK n) = n := by
  rcases hwf.2.2 n h (by omega) with ⟨h1 | h1, h2⟩ | h1
  · exact ⟨h2, by have := nm_of n; rw [h1] at this; exact this⟩
  · exact absurd (by have := nm_of n; rw [h1] at this; rw [← this, kd_nm] at hk; exact hk) (by decide)
  · rw [h1] at hk; exact absurd hk (by decide)
theorem byt_nm {n : Nat} (hwf : zWf u) (h : al u n) (hk : kd n = 28) : nK n < 27 ∧ nm 28 (nK n) = n := by
  rcases hwf.2.2 n h (by omega) with ⟨h1 | h1, h2⟩ | h1
  · exact absurd (by have := nm_of n; rw [h1] at this; rw [← this, kd_nm] at hk; exact hk) (by decide)
  · exact ⟨h2, by have := nm_of n; rw [h1] at this; exact this⟩
  · rw [h1] at hk; exact absurd hk (by decide)
/-- a String's bytes, its coder -/
theorem go_strval {i n : Nat} {ref : String} {f : Nat → Option (β × zM)} (hk : kd n = 27) (hl : Cond.fieldLink own i "java/lang/String" "value" "[B" ∈ lw_all) (d : decode cc pc = .ok (.getfield i, 3)) (g : ∀ r : Nat, kd r = 28 → Go own cc nL rt ini fr lo tb ob Qf c0 s0 (pc + 3) A B (.ref r :: st) u (f r)) : Go own cc nL rt ini fr lo tb ob Qf c0 s0 pc A B (.ref n :: st) u (lt (nm 28 (nK n)) f) := by
  refine go_pure (pc' := pc + 3) (st := .ref n :: st) (st' := .ref (nm 28 (nK n)) :: st) (fun hwf hA hS => okS_cons.mpr ⟨okV_ref.mpr (hwf.2.1 _ (str_nm hwf (okV_ref.mp (okS_cons.mp hS).1) hk).1).2.1, (okS_cons.mp hS).2⟩) (fun K p l e R s m args below meth c H locs ls cells slots Q hc hL hwf hS hC kk => ?_) (g (nm 28 (nK n)) (kd_nm _ _))
  have hn := str_nm hwf (okV_ref.mp (okS_cons.mp hS).1) hk
  obtain ⟨cf, k0, fi, f0, cell, h1, h2, h3, h4, h5, h6⟩ := (hC.2.2.2.1.1.1 _ hn.1).2.2.1
  have e1 : ad K u n = K.2.2.1 (nK n) := by unfold ad; rw [if_pos hk]
  have e2 : ad K u (nm 28 (nK n)) = K.2.2.2.1 (nK n) := by unfold ad; rw [if_neg (by rw [kd_nm]; decide), if_pos (kd_nm _ _), nK_nm (by decide)]
  rw [List.map_cons, cv_ref, e1]
  refine W.getf hc.1 hc.2.1 hc.2.2.2.2.1 (hc.2.2.2.2.2.1 _ hl) h1 h2 h3 h4 (v := .ref (K.2.2.2.1 (nK n))) h5 rfl rfl d ?_
  rw [← e2]; exact kk
theorem go_strcoder {i n : Nat} (hk : kd n = 27) (hl : Cond.fieldLink own i "java/lang/String" "coder" "B" ∈ lw_all) (d : decode cc pc = .ok (.getfield i, 3)) (g : Go own cc nL rt ini fr lo tb ob Qf c0 s0 (pc + 3) A B (.int 0 :: st) u o) : Go own cc nL rt ini fr lo tb ob Qf c0 s0 pc A B (.ref n :: st) u o := by
  refine go_pure (pc' := pc + 3) (st := .ref n :: st) (st' := .int 0 :: st) (fun hwf hA hS => okS_cons.mpr ⟨okV_int, (okS_cons.mp hS).2⟩) (fun K p l e R s m args below meth c H locs ls cells slots Q hc hL hwf hS hC kk => ?_) g
  have hn := str_nm hwf (okV_ref.mp (okS_cons.mp hS).1) hk
  obtain ⟨cf, k0, fi, f0, cell, h1, h2, h3, h4, h5, h6⟩ := (hC.2.2.2.1.1.1 _ hn.1).2.1
  have e1 : ad K u n = K.2.2.1 (nK n) := by unfold ad; rw [if_pos hk]
  rw [List.map_cons, cv_ref, e1]
  exact W.getf hc.1 hc.2.1 hc.2.2.2.2.1 (hc.2.2.2.2.2.1 _ hl) h1 h2 h3 h4 (v := .int 0) h5 rfl rfl d kk
theorem go_getsC {i : Nat} (hl : Cond.fieldLink own i "java/lang/String" "COMPACT_STRINGS" "Z" ∈ lw_all) (d : decode cc pc = .ok (.getstatic i, 3)) (g : Go own cc nL rt ini fr lo tb ob Qf c0 s0 (pc + 3) A B (.int 1 :: st) u o) : Go own cc nL rt ini fr lo tb ob Qf c0 s0 pc A B st u o := by
  refine go_pure (pc' := pc + 3) (st := st) (st' := .int 1 :: st) (fun hwf hA hS => okS_cons.mpr ⟨okV_int, hS⟩) (fun K p l e R s m args below meth c H locs ls cells slots Q hc hL hwf hS hC kk => ?_) g
  obtain ⟨cf, kf, fi, f, a, cell, h1, h2, h3, h4, h5, h6, h7, h8⟩ := hC.2.2.2.1.2.1
  exact W.gets hc.1 hc.2.1 hc.2.2.2.2.1 (hc.2.2.2.2.2.1 _ hl) h1 h2 h3 h4 h5 (fun e => by rw [e] at h6; cases h6) h7 rfl d kk
theorem byt_cell {K : zK} {s : State} {H : Heap} {n : Nat} (hwf : zWf u) (hC : Cz K s u H) (h : al u n) (hk : kd n = 28) : ∃ cell : Cell, H[ad K u n]? = some cell ∧ s.isArrayOf cell .byte ∧ cell.vm ≠ .unknown ∧ mN u n ≤ cell.slots.size ∧ cell.slots.size.toInt32 = Int32.ofNat (mN u n) ∧ ∀ j : Nat, j < mN u n → cell.slots[j]? = some (.int (mI u n j)) := by
  obtain ⟨h1, h2⟩ := byt_nm hwf h hk
  obtain ⟨-, -, h3, h4⟩ := hwf.2.1 _ h1
  rw [h2] at h3 h4
  obtain ⟨cell, a1, a2, a3, a4, a5, a6, a7⟩ := (hC.2.2.2.1.1.1 _ h1).2.2.2
  have e2 : ad K u n = K.2.2.2.1 (nK n) := by unfold ad; rw [if_neg (by omega), if_pos hk]
  exact ⟨cell, by rw [e2]; exact a1, a2, a3, by rw [h3]; exact a4, by rw [h3]; exact a5, fun j hj => by rw [h3] at hj; rw [a6 j hj, h4]⟩
theorem go_bcld {i : Int32} {n : Nat} (hk : kd n = 28) (d : decode cc pc = .ok (.baload, 1)) (g : Go own cc nL rt ini fr lo tb ob Qf c0 s0 (pc + 1) A B (.int (mI u n (xN i)) :: st) u o) : Go own cc nL rt ini fr lo tb ob Qf c0 s0 pc A B (.int i :: .ref n :: st) u (ix i (mN u n) o) := by
  refine go_ix fun hix => ?_
  refine go_pure (pc' := pc + 1) (st := .int i :: .ref n :: st) (st' := .int (mI u n (xN i)) :: st) (fun hwf hA hS => okS_cons.mpr ⟨okV_int, (okS_cons.mp (okS_cons.mp hS).2).2⟩) (fun K p l e R s m args below meth c H locs ls cells slots Q hc hL hwf hS hC kk => ?_) g
  obtain ⟨cell, a1, a2, a3, a4, a5, a6⟩ := byt_cell hwf hC (okV_ref.mp (okS_cons.mp (okS_cons.mp hS).2).1) hk
  have hlt : i.toNatClampNeg < mN u n := Nat.not_le.mp fun q => hix (Or.inr q)
  exact W.bald (v := .int (mI u n (xN i))) hc.1 hc.2.1 a1 a2 a3 (fun q => q.elim (fun q => hix (Or.inl q)) (fun q => by omega)) (a6 _ hlt) rfl rfl d kk
theorem go_alenS {n : Nat} (d : decode cc pc = .ok (.arraylength, 1)) (hk : kd n = 28) (g : Go own cc nL rt ini fr lo tb ob Qf c0 s0 (pc + 1) A B (.int (Int32.ofNat (mN u n)) :: st) u o) : Go own cc nL rt ini fr lo tb ob Qf c0 s0 pc A B (.ref n :: st) u o := by
  refine go_pure (pc' := pc + 1) (st := .ref n :: st) (st' := .int (Int32.ofNat (mN u n)) :: st) (fun hwf hA hS => okS_cons.mpr ⟨okV_int, (okS_cons.mp hS).2⟩) (fun K p l e R s m args below meth c H locs ls cells slots Q hc hL hwf hS hC kk => ?_) g
  obtain ⟨cell, a1, a2, a3, a4, a5, a6⟩ := byt_cell hwf hC (okV_ref.mp (okS_cons.mp hS).1) hk
  exact W.alen hc.1 hc.2.1 a1 a2 a5 rfl rfl d kk
theorem go_i2c {x : Int32} (d : decode cc pc = .ok (.i2c, 1)) (g : Go own cc nL rt ini fr lo tb ob Qf c0 s0 (pc + 1) A B (.int ((x.toUInt32 % 65536).toInt32) :: st) u o) : Go own cc nL rt ini fr lo tb ob Qf c0 s0 pc A B (.int x :: st) u o :=
  go_pure (pc' := pc + 1) (st := .int x :: st) (st' := .int ((x.toUInt32 % 65536).toInt32) :: st) (fun hwf hA hS => okS_cons.mpr ⟨okV_int, (okS_cons.mp hS).2⟩) (fun K p l e R s m args below meth c H locs ls cells slots Q hc hL hwf hS hC k => lv_i2c hc.1 hc.2.1 d rfl k) g
/-- an answer of a small type -/
def gn {γ : Type} (ty : FieldType) (v : Int32) (o : Option γ) : Option γ := if narrow ty (.int v) = .int v then o else none
theorem go_nreturn {v : Int32} {ty : FieldType} (hrt : rt = some ty) (d : decode cc pc = .ok (.ireturn, 1)) : Go (β := Int32) own cc nL rt ini fr lo tb obT (zQ rvI) c0 s0 pc A B [.int v] u (gn ty v (some (v, u))) := by
  intro b u' ho
  unfold gn at ho
  split at ho
  · rename_i h
    exact (go_end (stE := [.int v]) (b := v) (rv := rvI) (fun _ _ => trivial) (fun K p l e R s m args below meth c H locs ls cells slots Qc hc hq hf => W.zret hc.1 hc.2.1 (hc.2.2.1.trans hrt) h hq hf d hc.2.2.2.2.2.2.1)) b u' ho
  · cases ho
/-- a String is stored in an array of Strings -/
theorem go_aastS {i : Int32} {n v : Nat} {f : zM → Option (β × zM)} (hk : kd n = 26) (hv : kd v = 27) (d : decode cc pc = .ok (.aastore, 1)) (g : ∀ u1, Go own cc nL rt ini fr lo tb ob Qf c0 s0 (pc + 1) A B st u1 (f u1)) : Go own cc nL rt ini fr lo tb ob Qf c0 s0 pc A B (.ref v :: .int i :: .ref n :: st) u (ix i (mN u n) (lt (sR u n (xN i) (some v)) f)) := by
  refine go_ix fun hix => ?_
  refine go_write (n := n) (u1 := sR u n (xN i) (some v)) (fun hwf hS => zWf_sR hwf fun n' h => by cases h; exact ⟨okV_ref.mp (okS_cons.mp hS).1, by rw [hk, fT_arr (by omega), hv]; rfl⟩) zEx_sR (fun hS => (okS_cons.mp (okS_cons.mp (okS_cons.mp hS).2).2).2) rfl rfl (fun K p l e R s m args below meth c H locs ls cells slots Q hc hL hwf hS hC hV kk => ?_) (g (sR u n (xN i) (some v)))
  have hn : al u n := okV_ref.mp (okS_cons.mp (okS_cons.mp (okS_cons.mp hS).2).2).1
  have hn2 := str_nm hwf (okV_ref.mp (okS_cons.mp hS).1) hv
  have hlt : i.toNatClampNeg < mN u n := Nat.not_le.mp fun q => hix (Or.inr q)
  obtain ⟨cA, a1, a2, a3⟩ := zAt_arr hC hn hk (by omega) (by omega)
  have a2' := a2
  rw [if_neg (by omega), if_neg (by omega)] at a3
  obtain ⟨cellV, g1, g2, g3, -⟩ := (hC.2.2.2.1.1.1 _ hn2.1).1
  have e1 : ad K u v = K.2.2.1 (nK v) := by unfold ad; rw [if_pos hv]
  obtain ⟨kA, comp, k1, k2, k3, -⟩ := a2'
  have hcomp : comp = cellV.cls := Option.some.inj (k3.symm.trans g3)
  subst hcomp
  obtain ⟨kC, hkC, hnm⟩ := Vm.findClass_spec g3
  refine W.aast hc.1 hc.2.1 a3 (fun q h => by cases h) (fun h => by cases h) k1 k2 rfl hkC ⟨fun q => hix (Or.inl q), by show _ < (arrV _ _ _).slots.size; rw [arrV_size]; exact hlt⟩ (by rw [← e1] at g1; exact g1) (fun q h => by rw [h] at g2; cases g2) hkC (va_asg _ _) rfl rfl d fun H1 e1' z oq => ?_
  refine kk H1 _ (zArr_ok hC hn hk (by omega) (by omega) z oq rfl rfl rfl rfl (fun n' hn' => ⟨rfl, funext fun j => by rw [mR_sR, if_neg (fun z => hn' z.1)], rfl, rfl⟩) a1 a2 ?_) (hV.put z oq (ad_A (by omega)))
  rw [e1', if_neg (by omega), if_neg (by omega)]
  show some ((arrV cA (mN u n) (fun j => va_rf ((mR u n j).map (ad K u)))).setSlot _ _) = some (arrV cA (mN u n) (fun j => va_rf ((mR (sR u n (xN i) (some v)) n j).map (ad K u))))
  rw [arrV_store]
  congr 2
  funext q
  rw [mR_sR]
  by_cases hq : q = xN i
  · subst hq
    simp [updV, va_rf]
  · simp [updV, hq]
end GF
section GJ
variable {β : Type} {own : String} {cc : ByteArray} {nL : Nat} {rt : Option FieldType} {ini : Bool} {fr lo : Nat} {tb : List ExceptionTableEntry} {ob : β → zM → Prop} {Qf : zQf β} {c0 s0 pc : Nat} {A : List (Nat × Value)} {B : List (Nat × Int64)} {st : List Value} {u : zM}
theorem go_join0 {J : zM → Option (β × zM)} {f : (zM → Option (β × zM)) → Option (β × zM)} {pcx : Nat} (Ax : List (Nat × Value)) (Bx : List (Nat × Int64)) (sx : List Value) (Kx : Prop) (h : ∀ (v : zM), Kx → Go own cc nL rt ini fr lo tb ob Qf c0 s0 pcx (Ax) (Bx) (sx) v (J v)) (g : ∀ j : zM → Option (β × zM), (∀ (v : zM), Kx → Go own cc nL rt ini fr lo tb ob Qf c0 s0 pcx (Ax) (Bx) (sx) v (j v)) → Go own cc nL rt ini fr lo tb ob Qf c0 s0 pc A B st u (f j)) : Go own cc nL rt ini fr lo tb ob Qf c0 s0 pc A B st u (lt J f) := g J h
theorem go_join1 {α1 : Type} {J : α1 → zM → Option (β × zM)} {f : (α1 → zM → Option (β × zM)) → Option (β × zM)} {pcx : Nat} (Ax : α1 → List (Nat × Value)) (Bx : α1 → List (Nat × Int64)) (sx : α1 → List Value) (Kx : α1 → Prop) (h : ∀ (a1 : α1) (v : zM), Kx a1 → Go own cc nL rt ini fr lo tb ob Qf c0 s0 pcx (Ax a1) (Bx a1) (sx a1) v (J a1 v)) (g : ∀ j : α1 → zM → Option (β × zM), (∀ (a1 : α1) (v : zM), Kx a1 → Go own cc nL rt ini fr lo tb ob Qf c0 s0 pcx (Ax a1) (Bx a1) (sx a1) v (j a1 v)) → Go own cc nL rt ini fr lo tb ob Qf c0 s0 pc A B st u (f j)) : Go own cc nL rt ini fr lo tb ob Qf c0 s0 pc A B st u (lt J f) := g J h
theorem go_join2 {α1 α2 : Type} {J : α1 → α2 → zM → Option (β × zM)} {f : (α1 → α2 → zM → Option (β × zM)) → Option (β × zM)} {pcx : Nat} (Ax : α1 → α2 → List (Nat × Value)) (Bx : α1 → α2 → List (Nat × Int64)) (sx : α1 → α2 → List Value) (Kx : α1 → α2 → Prop) (h : ∀ (a1 : α1) (a2 : α2) (v : zM), Kx a1 a2 → Go own cc nL rt ini fr lo tb ob Qf c0 s0 pcx (Ax a1 a2) (Bx a1 a2) (sx a1 a2) v (J a1 a2 v)) (g : ∀ j : α1 → α2 → zM → Option (β × zM), (∀ (a1 : α1) (a2 : α2) (v : zM), Kx a1 a2 → Go own cc nL rt ini fr lo tb ob Qf c0 s0 pcx (Ax a1 a2) (Bx a1 a2) (sx a1 a2) v (j a1 a2 v)) → Go own cc nL rt ini fr lo tb ob Qf c0 s0 pc A B st u (f j)) : Go own cc nL rt ini fr lo tb ob Qf c0 s0 pc A B st u (lt J f) := g J h
theorem go_join3 {α1 α2 α3 : Type} {J : α1 → α2 → α3 → zM → Option (β × zM)} {f : (α1 → α2 → α3 → zM → Option (β × zM)) → Option (β × zM)} {pcx : Nat} (Ax : α1 → α2 → α3 → List (Nat × Value)) (Bx : α1 → α2 → α3 → List (Nat × Int64)) (sx : α1 → α2 → α3 → List Value) (Kx : α1 → α2 → α3 → Prop) (h : ∀ (a1 : α1) (a2 : α2) (a3 : α3) (v : zM), Kx a1 a2 a3 → Go own cc nL rt ini fr lo tb ob Qf c0 s0 pcx (Ax a1 a2 a3) (Bx a1 a2 a3) (sx a1 a2 a3) v (J a1 a2 a3 v)) (g : ∀ j : α1 → α2 → α3 → zM → Option (β × zM), (∀ (a1 : α1) (a2 : α2) (a3 : α3) (v : zM), Kx a1 a2 a3 → Go own cc nL rt ini fr lo tb ob Qf c0 s0 pcx (Ax a1 a2 a3) (Bx a1 a2 a3) (sx a1 a2 a3) v (j a1 a2 a3 v)) → Go own cc nL rt ini fr lo tb ob Qf c0 s0 pc A B st u (f j)) : Go own cc nL rt ini fr lo tb ob Qf c0 s0 pc A B st u (lt J f) := g J h
theorem go_join4 {α1 α2 α3 α4 : Type} {J : α1 → α2 → α3 → α4 → zM → Option (β × zM)} {f : (α1 → α2 → α3 → α4 → zM → Option (β × zM)) → Option (β × zM)} {pcx : Nat} (Ax : α1 → α2 → α3 → α4 → List (Nat × Value)) (Bx : α1 → α2 → α3 → α4 → List (Nat × Int64)) (sx : α1 → α2 → α3 → α4 → List Value) (Kx : α1 → α2 → α3 → α4 → Prop) (h : ∀ (a1 : α1) (a2 : α2) (a3 : α3) (a4 : α4) (v : zM), Kx a1 a2 a3 a4 → Go own cc nL rt ini fr lo tb ob Qf c0 s0 pcx (Ax a1 a2 a3 a4) (Bx a1 a2 a3 a4) (sx a1 a2 a3 a4) v (J a1 a2 a3 a4 v)) (g : ∀ j : α1 → α2 → α3 → α4 → zM → Option (β × zM), (∀ (a1 : α1) (a2 : α2) (a3 : α3) (a4 : α4) (v : zM), Kx a1 a2 a3 a4 → Go own cc nL rt ini fr lo tb ob Qf c0 s0 pcx (Ax a1 a2 a3 a4) (Bx a1 a2 a3 a4) (sx a1 a2 a3 a4) v (j a1 a2 a3 a4 v)) → Go own cc nL rt ini fr lo tb ob Qf c0 s0 pc A B st u (f j)) : Go own cc nL rt ini fr lo tb ob Qf c0 s0 pc A B st u (lt J f) := g J h
theorem go_join5 {α1 α2 α3 α4 α5 : Type} {J : α1 → α2 → α3 → α4 → α5 → zM → Option (β × zM)} {f : (α1 → α2 → α3 → α4 → α5 → zM → Option (β × zM)) → Option (β × zM)} {pcx : Nat} (Ax : α1 → α2 → α3 → α4 → α5 → List (Nat × Value)) (Bx : α1 → α2 → α3 → α4 → α5 → List (Nat × Int64)) (sx : α1 → α2 → α3 → α4 → α5 → List Value) (Kx : α1 → α2 → α3 → α4 → α5 → Prop) (h : ∀ (a1 : α1) (a2 : α2) (a3 : α3) (a4 : α4) (a5 : α5) (v : zM), Kx a1 a2 a3 a4 a5 → Go own cc nL rt ini fr lo tb ob Qf c0 s0 pcx (Ax a1 a2 a3 a4 a5) (Bx a1 a2 a3 a4 a5) (sx a1 a2 a3 a4 a5) v (J a1 a2 a3 a4 a5 v)) (g : ∀ j : α1 → α2 → α3 → α4 → α5 → zM → Option (β × zM), (∀ (a1 : α1) (a2 : α2) (a3 : α3) (a4 : α4) (a5 : α5) (v : zM), Kx a1 a2 a3 a4 a5 → Go own cc nL rt ini fr lo tb ob Qf c0 s0 pcx (Ax a1 a2 a3 a4 a5) (Bx a1 a2 a3 a4 a5) (sx a1 a2 a3 a4 a5) v (j a1 a2 a3 a4 a5 v)) → Go own cc nL rt ini fr lo tb ob Qf c0 s0 pc A B st u (f j)) : Go own cc nL rt ini fr lo tb ob Qf c0 s0 pc A B st u (lt J f) := g J h
theorem go_join6 {α1 α2 α3 α4 α5 α6 : Type} {J : α1 → α2 → α3 → α4 → α5 → α6 → zM → Option (β × zM)} {f : (α1 → α2 → α3 → α4 → α5 → α6 → zM → Option (β × zM)) → Option (β × zM)} {pcx : Nat} (Ax : α1 → α2 → α3 → α4 → α5 → α6 → List (Nat × Value)) (Bx : α1 → α2 → α3 → α4 → α5 → α6 → List (Nat × Int64)) (sx : α1 → α2 → α3 → α4 → α5 → α6 → List Value) (Kx : α1 → α2 → α3 → α4 → α5 → α6 → Prop) (h : ∀ (a1 : α1) (a2 : α2) (a3 : α3) (a4 : α4) (a5 : α5) (a6 : α6) (v : zM), Kx a1 a2 a3 a4 a5 a6 → Go own cc nL rt ini fr lo tb ob Qf c0 s0 pcx (Ax a1 a2 a3 a4 a5 a6) (Bx a1 a2 a3 a4 a5 a6) (sx a1 a2 a3 a4 a5 a6) v (J a1 a2 a3 a4 a5 a6 v)) (g : ∀ j : α1 → α2 → α3 → α4 → α5 → α6 → zM → Option (β × zM), (∀ (a1 : α1) (a2 : α2) (a3 : α3) (a4 : α4) (a5 : α5) (a6 : α6) (v : zM), Kx a1 a2 a3 a4 a5 a6 → Go own cc nL rt ini fr lo tb ob Qf c0 s0 pcx (Ax a1 a2 a3 a4 a5 a6) (Bx a1 a2 a3 a4 a5 a6) (sx a1 a2 a3 a4 a5 a6) v (j a1 a2 a3 a4 a5 a6 v)) → Go own cc nL rt ini fr lo tb ob Qf c0 s0 pc A B st u (f j)) : Go own cc nL rt ini fr lo tb ob Qf c0 s0 pc A B st u (lt J f) := g J h
theorem go_join7 {α1 α2 α3 α4 α5 α6 α7 : Type} {J : α1 → α2 → α3 → α4 → α5 → α6 → α7 → zM → Option (β × zM)} {f : (α1 → α2 → α3 → α4 → α5 → α6 → α7 → zM → Option (β × zM)) → Option (β × zM)} {pcx : Nat} (Ax : α1 → α2 → α3 → α4 → α5 → α6 → α7 → List (Nat × Value)) (Bx : α1 → α2 → α3 → α4 → α5 → α6 → α7 → List (Nat × Int64)) (sx : α1 → α2 → α3 → α4 → α5 → α6 → α7 → List Value) (Kx : α1 → α2 → α3 → α4 → α5 → α6 → α7 → Prop) (h : ∀ (a1 : α1) (a2 : α2) (a3 : α3) (a4 : α4) (a5 : α5) (a6 : α6) (a7 : α7) (v : zM), Kx a1 a2 a3 a4 a5 a6 a7 → Go own cc nL rt ini fr lo tb ob Qf c0 s0 pcx (Ax a1 a2 a3 a4 a5 a6 a7) (Bx a1 a2 a3 a4 a5 a6 a7) (sx a1 a2 a3 a4 a5 a6 a7) v (J a1 a2 a3 a4 a5 a6 a7 v)) (g : ∀ j : α1 → α2 → α3 → α4 → α5 → α6 → α7 → zM → Option (β × zM), (∀ (a1 : α1) (a2 : α2) (a3 : α3) (a4 : α4) (a5 : α5) (a6 : α6) (a7 : α7) (v : zM), Kx a1 a2 a3 a4 a5 a6 a7 → Go own cc nL rt ini fr lo tb ob Qf c0 s0 pcx (Ax a1 a2 a3 a4 a5 a6 a7) (Bx a1 a2 a3 a4 a5 a6 a7) (sx a1 a2 a3 a4 a5 a6 a7) v (j a1 a2 a3 a4 a5 a6 a7 v)) → Go own cc nL rt ini fr lo tb ob Qf c0 s0 pc A B st u (f j)) : Go own cc nL rt ini fr lo tb ob Qf c0 s0 pc A B st u (lt J f) := g J h
theorem go_join8 {α1 α2 α3 α4 α5 α6 α7 α8 : Type} {J : α1 → α2 → α3 → α4 → α5 → α6 → α7 → α8 → zM → Option (β × zM)} {f : (α1 → α2 → α3 → α4 → α5 → α6 → α7 → α8 → zM → Option (β × zM)) → Option (β × zM)} {pcx : Nat} (Ax : α1 → α2 → α3 → α4 → α5 → α6 → α7 → α8 → List (Nat × Value)) (Bx : α1 → α2 → α3 → α4 → α5 → α6 → α7 → α8 → List (Nat × Int64)) (sx : α1 → α2 → α3 → α4 → α5 → α6 → α7 → α8 → List Value) (Kx : α1 → α2 → α3 → α4 → α5 → α6 → α7 → α8 → Prop) (h : ∀ (a1 : α1) (a2 : α2) (a3 : α3) (a4 : α4) (a5 : α5) (a6 : α6) (a7 : α7) (a8 : α8) (v : zM), Kx a1 a2 a3 a4 a5 a6 a7 a8 → Go own cc nL rt ini fr lo tb ob Qf c0 s0 pcx (Ax a1 a2 a3 a4 a5 a6 a7 a8) (Bx a1 a2 a3 a4 a5 a6 a7 a8) (sx a1 a2 a3 a4 a5 a6 a7 a8) v (J a1 a2 a3 a4 a5 a6 a7 a8 v)) (g : ∀ j : α1 → α2 → α3 → α4 → α5 → α6 → α7 → α8 → zM → Option (β × zM), (∀ (a1 : α1) (a2 : α2) (a3 : α3) (a4 : α4) (a5 : α5) (a6 : α6) (a7 : α7) (a8 : α8) (v : zM), Kx a1 a2 a3 a4 a5 a6 a7 a8 → Go own cc nL rt ini fr lo tb ob Qf c0 s0 pcx (Ax a1 a2 a3 a4 a5 a6 a7 a8) (Bx a1 a2 a3 a4 a5 a6 a7 a8) (sx a1 a2 a3 a4 a5 a6 a7 a8) v (j a1 a2 a3 a4 a5 a6 a7 a8 v)) → Go own cc nL rt ini fr lo tb ob Qf c0 s0 pc A B st u (f j)) : Go own cc nL rt ini fr lo tb ob Qf c0 s0 pc A B st u (lt J f) := g J h
theorem go_join9 {α1 α2 α3 α4 α5 α6 α7 α8 α9 : Type} {J : α1 → α2 → α3 → α4 → α5 → α6 → α7 → α8 → α9 → zM → Option (β × zM)} {f : (α1 → α2 → α3 → α4 → α5 → α6 → α7 → α8 → α9 → zM → Option (β × zM)) → Option (β × zM)} {pcx : Nat} (Ax : α1 → α2 → α3 → α4 → α5 → α6 → α7 → α8 → α9 → List (Nat × Value)) (Bx : α1 → α2 → α3 → α4 → α5 → α6 → α7 → α8 → α9 → List (Nat × Int64)) (sx : α1 → α2 → α3 → α4 → α5 → α6 → α7 → α8 → α9 → List Value) (Kx : α1 → α2 → α3 → α4 → α5 → α6 → α7 → α8 → α9 → Prop) (h : ∀ (a1 : α1) (a2 : α2) (a3 : α3) (a4 : α4) (a5 : α5) (a6 : α6) (a7 : α7) (a8 : α8) (a9 : α9) (v : zM), Kx a1 a2 a3 a4 a5 a6 a7 a8 a9 → Go own cc nL rt ini fr lo tb ob Qf c0 s0 pcx (Ax a1 a2 a3 a4 a5 a6 a7 a8 a9) (Bx a1 a2 a3 a4 a5 a6 a7 a8 a9) (sx a1 a2 a3 a4 a5 a6 a7 a8 a9) v (J a1 a2 a3 a4 a5 a6 a7 a8 a9 v)) (g : ∀ j : α1 → α2 → α3 → α4 → α5 → α6 → α7 → α8 → α9 → zM → Option (β × zM), (∀ (a1 : α1) (a2 : α2) (a3 : α3) (a4 : α4) (a5 : α5) (a6 : α6) (a7 : α7) (a8 : α8) (a9 : α9) (v : zM), Kx a1 a2 a3 a4 a5 a6 a7 a8 a9 → Go own cc nL rt ini fr lo tb ob Qf c0 s0 pcx (Ax a1 a2 a3 a4 a5 a6 a7 a8 a9) (Bx a1 a2 a3 a4 a5 a6 a7 a8 a9) (sx a1 a2 a3 a4 a5 a6 a7 a8 a9) v (j a1 a2 a3 a4 a5 a6 a7 a8 a9 v)) → Go own cc nL rt ini fr lo tb ob Qf c0 s0 pc A B st u (f j)) : Go own cc nL rt ini fr lo tb ob Qf c0 s0 pc A B st u (lt J f) := g J h
theorem go_join10 {α1 α2 α3 α4 α5 α6 α7 α8 α9 α10 : Type} {J : α1 → α2 → α3 → α4 → α5 → α6 → α7 → α8 → α9 → α10 → zM → Option (β × zM)} {f : (α1 → α2 → α3 → α4 → α5 → α6 → α7 → α8 → α9 → α10 → zM → Option (β × zM)) → Option (β × zM)} {pcx : Nat} (Ax : α1 → α2 → α3 → α4 → α5 → α6 → α7 → α8 → α9 → α10 → List (Nat × Value)) (Bx : α1 → α2 → α3 → α4 → α5 → α6 → α7 → α8 → α9 → α10 → List (Nat × Int64)) (sx : α1 → α2 → α3 → α4 → α5 → α6 → α7 → α8 → α9 → α10 → List Value) (Kx : α1 → α2 → α3 → α4 → α5 → α6 → α7 → α8 → α9 → α10 → Prop) (h : ∀ (a1 : α1) (a2 : α2) (a3 : α3) (a4 : α4) (a5 : α5) (a6 : α6) (a7 : α7) (a8 : α8) (a9 : α9) (a10 : α10) (v : zM), Kx a1 a2 a3 a4 a5 a6 a7 a8 a9 a10 → Go own cc nL rt ini fr lo tb ob Qf c0 s0 pcx (Ax a1 a2 a3 a4 a5 a6 a7 a8 a9 a10) (Bx a1 a2 a3 a4 a5 a6 a7 a8 a9 a10) (sx a1 a2 a3 a4 a5 a6 a7 a8 a9 a10) v (J a1 a2 a3 a4 a5 a6 a7 a8 a9 a10 v)) (g : ∀ j : α1 → α2 → α3 → α4 → α5 → α6 → α7 → α8 → α9 → α10 → zM → Option (β × zM), (∀ (a1 : α1) (a2 : α2) (a3 : α3) (a4 : α4) (a5 : α5) (a6 : α6) (a7 : α7) (a8 : α8) (a9 : α9) (a10 : α10) (v : zM), Kx a1 a2 a3 a4 a5 a6 a7 a8 a9 a10 → Go own cc nL rt ini fr lo tb ob Qf c0 s0 pcx (Ax a1 a2 a3 a4 a5 a6 a7 a8 a9 a10) (Bx a1 a2 a3 a4 a5 a6 a7 a8 a9 a10) (sx a1 a2 a3 a4 a5 a6 a7 a8 a9 a10) v (j a1 a2 a3 a4 a5 a6 a7 a8 a9 a10 v)) → Go own cc nL rt ini fr lo tb ob Qf c0 s0 pc A B st u (f j)) : Go own cc nL rt ini fr lo tb ob Qf c0 s0 pc A B st u (lt J f) := g J h
theorem go_join11 {α1 α2 α3 α4 α5 α6 α7 α8 α9 α10 α11 : Type} {J : α1 → α2 → α3 → α4 → α5 → α6 → α7 → α8 → α9 → α10 → α11 → zM → Option (β × zM)} {f : (α1 → α2 → α3 → α4 → α5 → α6 → α7 → α8 → α9 → α10 → α11 → zM → Option (β × zM)) → Option (β × zM)} {pcx : Nat} (Ax : α1 → α2 → α3 → α4 → α5 → α6 → α7 → α8 → α9 → α10 → α11 → List (Nat × Value)) (Bx : α1 → α2 → α3 → α4 → α5 → α6 → α7 → α8 → α9 → α10 → α11 → List (Nat × Int64)) (sx : α1 → α2 → α3 → α4 → α5 → α6 → α7 → α8 → α9 → α10 → α11 → List Value) (Kx : α1 → α2 → α3 → α4 → α5 → α6 → α7 → α8 → α9 → α10 → α11 → Prop) (h : ∀ (a1 : α1) (a2 : α2) (a3 : α3) (a4 : α4) (a5 : α5) (a6 : α6) (a7 : α7) (a8 : α8) (a9 : α9) (a10 : α10) (a11 : α11) (v : zM), Kx a1 a2 a3 a4 a5 a6 a7 a8 a9 a10 a11 → Go own cc nL rt ini fr lo tb ob Qf c0 s0 pcx (Ax a1 a2 a3 a4 a5 a6 a7 a8 a9 a10 a11) (Bx a1 a2 a3 a4 a5 a6 a7 a8 a9 a10 a11) (sx a1 a2 a3 a4 a5 a6 a7 a8 a9 a10 a11) v (J a1 a2 a3 a4 a5 a6 a7 a8 a9 a10 a11 v)) (g : ∀ j : α1 → α2 → α3 → α4 → α5 → α6 → α7 → α8 → α9 → α10 → α11 → zM → Option (β × zM), (∀ (a1 : α1) (a2 : α2) (a3 : α3) (a4 : α4) (a5 : α5) (a6 : α6) (a7 : α7) (a8 : α8) (a9 : α9) (a10 : α10) (a11 : α11) (v : zM), Kx a1 a2 a3 a4 a5 a6 a7 a8 a9 a10 a11 → Go own cc nL rt ini fr lo tb ob Qf c0 s0 pcx (Ax a1 a2 a3 a4 a5 a6 a7 a8 a9 a10 a11) (Bx a1 a2 a3 a4 a5 a6 a7 a8 a9 a10 a11) (sx a1 a2 a3 a4 a5 a6 a7 a8 a9 a10 a11) v (j a1 a2 a3 a4 a5 a6 a7 a8 a9 a10 a11 v)) → Go own cc nL rt ini fr lo tb ob Qf c0 s0 pc A B st u (f j)) : Go own cc nL rt ini fr lo tb ob Qf c0 s0 pc A B st u (lt J f) := g J h
theorem go_join12 {α1 α2 α3 α4 α5 α6 α7 α8 α9 α10 α11 α12 : Type} {J : α1 → α2 → α3 → α4 → α5 → α6 → α7 → α8 → α9 → α10 → α11 → α12 → zM → Option (β × zM)} {f : (α1 → α2 → α3 → α4 → α5 → α6 → α7 → α8 → α9 → α10 → α11 → α12 → zM → Option (β × zM)) → Option (β × zM)} {pcx : Nat} (Ax : α1 → α2 → α3 → α4 → α5 → α6 → α7 → α8 → α9 → α10 → α11 → α12 → List (Nat × Value)) (Bx : α1 → α2 → α3 → α4 → α5 → α6 → α7 → α8 → α9 → α10 → α11 → α12 → List (Nat × Int64)) (sx : α1 → α2 → α3 → α4 → α5 → α6 → α7 → α8 → α9 → α10 → α11 → α12 → List Value) (Kx : α1 → α2 → α3 → α4 → α5 → α6 → α7 → α8 → α9 → α10 → α11 → α12 → Prop) (h : ∀ (a1 : α1) (a2 : α2) (a3 : α3) (a4 : α4) (a5 : α5) (a6 : α6) (a7 : α7) (a8 : α8) (a9 : α9) (a10 : α10) (a11 : α11) (a12 : α12) (v : zM), Kx a1 a2 a3 a4 a5 a6 a7 a8 a9 a10 a11 a12 → Go own cc nL rt ini fr lo tb ob Qf c0 s0 pcx (Ax a1 a2 a3 a4 a5 a6 a7 a8 a9 a10 a11 a12) (Bx a1 a2 a3 a4 a5 a6 a7 a8 a9 a10 a11 a12) (sx a1 a2 a3 a4 a5 a6 a7 a8 a9 a10 a11 a12) v (J a1 a2 a3 a4 a5 a6 a7 a8 a9 a10 a11 a12 v)) (g : ∀ j : α1 → α2 → α3 → α4 → α5 → α6 → α7 → α8 → α9 → α10 → α11 → α12 → zM → Option (β × zM), (∀ (a1 : α1) (a2 : α2) (a3 : α3) (a4 : α4) (a5 : α5) (a6 : α6) (a7 : α7) (a8 : α8) (a9 : α9) (a10 : α10) (a11 : α11) (a12 : α12) (v : zM), Kx a1 a2 a3 a4 a5 a6 a7 a8 a9 a10 a11 a12 → Go own cc nL rt ini fr lo tb ob Qf c0 s0 pcx (Ax a1 a2 a3 a4 a5 a6 a7 a8 a9 a10 a11 a12) (Bx a1 a2 a3 a4 a5 a6 a7 a8 a9 a10 a11 a12) (sx a1 a2 a3 a4 a5 a6 a7 a8 a9 a10 a11 a12) v (j a1 a2 a3 a4 a5 a6 a7 a8 a9 a10 a11 a12 v)) → Go own cc nL rt ini fr lo tb ob Qf c0 s0 pc A B st u (f j)) : Go own cc nL rt ini fr lo tb ob Qf c0 s0 pc A B st u (lt J f) := g J h
end GJ
