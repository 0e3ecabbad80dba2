set_option maxRecDepth 100000
/-! ===== methods with a handler ===== -/
def zMetW {β : Type} (y : MethodName) (code : ByteArray) (nL : Nat) (ret : Option FieldType) (hh : List (Nat × Nat × Nat × Nat)) (fr lo : Nat) (rv : β → Option Value) (ob : β → zM → Prop) (vs : List Value) (F : zM → Option (β × zM)) : Prop :=
  ∀ (u : zM) (b : β) (u' : zM), F u = some (b, u') → zWf u → okS u vs → (zWf u' ∧ zEx u u' ∧ ob b u') ∧
    ∀ (K : zK) (l : Launch), Met l y (wsW_ y code nL ret hh) { frames := fr, cells := mC u' - mC u, slots := mS u' - mS u, locals := lo } (va_Pc (vs.map (cv K u)) (fun U => zKU K U ∧ Cz K U u U.heap)) (zPo K rv b u') (mC u' - mC u) (mS u' - mS u) (zA K)
theorem zMetW_of {β : Type} {y : MethodName} {cc : ByteArray} {nL : Nat} {rt : Option FieldType} {hh : List (Nat × Nat × Nat × Nat)} {fr lo : Nat} {ob : β → zM → Prop} {rv : β → Option Value} {vs : List Value} {F : zM → Option (β × zM)} {A : List (Nat × Value)} (own : String) (hown : y.cls = own) (hy : plainName y.cls = true) (hlen : (lg_sl vs).length ≤ nL)
    (hA : ∀ q ∈ A, q ∈ lv_args 0 vs ∧ q.2.category = 1) (hU : aUq A = true)
    (g : ∀ u : zM, Go own cc nL rt false fr lo (tableOf hh) ob (zQ rv) (mC u) (mS u) 0 A [] [] u (F u)) : zMetW y cc nL rt hh fr lo rv ob vs F := by
  intro u b u' hF hwf hvs
  obtain ⟨h1, h2⟩ := g u b u' hF hwf ⟨fun q hq => ⟨hvs _ (lv_args_mem vs 0 q (hA q hq).1), (hA q hq).2⟩, hU⟩ okS_nil
  refine ⟨h1, fun K l => ?_⟩
  refine MetFree.of_bodyS (code := cc) (maxLocals := nL) (ret := rt) hy ?_ ?_
  · intro args s m h hn
    obtain ⟨m9, meth, c, hn9, h1, h2, h3, h4, -, h5, h6, -⟩ := Cond.codeWith_spec (atoms_spec (ws := wsW_ y cc nL rt hh) h _ List.mem_cons_self)
    cases hn.symm.trans hn9
    exact ⟨meth, c, h1, h2, h3, h4, h5, h6⟩
  · intro p e s m args below meth c s₁ B' hml hP _
    have hh0 : s₁.heap = s.heap := by rw [B'.state]; rfl
    have ht : c.exceptionTable.toList = tableOf hh := vz_table (x := y) B' (atoms_spec (ws := wsW_ y cc nL rt hh) B'.pre _ List.mem_cons_self)
    obtain ⟨rfl, hKU, hC⟩ := hP
    have hts := atoms_spec (ws := wsW_ y cc nL rt hh) B'.pre
    have hts : ∀ w ∈ lw_all, w.before _ s = true := fun w h => hts w (List.mem_cons_of_mem _ h)
    have hl := lv_entry (vs.map (cv K u)) (n := nL) (by rw [lg_sl_len]; exact hlen)
    have hL : lzHas K u ((lg_sl (vs.map (cv K u)) ++ List.replicate (nL - (lg_sl (vs.map (cv K u))).length) Slot.unset).toArray) nL A [] := by
      refine ⟨hl.1, hl.2.1, fun q hq => hl.2.2 q ?_⟩
      rw [lv_args_map]
      rcases List.mem_append.mp hq with z | z
      · obtain ⟨w, hw, rfl⟩ := List.mem_map.mp z
        exact List.mem_map.mpr ⟨w, (hA w hw).1, rfl⟩
      · cases z
    have k := h2 K p l e (headSpec (wsW_ y cc nL rt hh) ({ frames := fr, cells := mC u' - mC u, slots := mS u' - mS u, locals := lo })).room s m _ below meth c s.heap [] _ ⟨B'.exec, B'.bytes, B'.returns, hml, by rw [← hown]; exact findClass_of_methodNamed B'.named, hts, B'.notSynchronized, (fun h => by cases h), Nat.le_refl _, Nat.le_refl _, hKU, ht⟩ (Nat.le_refl _) (Nat.le_refl _) (Nat.le_refl _) (Nat.le_refl _) hC va_S.rf hL
    rw [Nat.sub_self, Nat.sub_self] at k
    rw [← hh0] at k
    rw [List.map_nil, ← lg_entry_eq] at k
    obtain ⟨t, a1, o, b1, b2, b3⟩ := k s₁ rfl (Stand.of_body B')
    exact ⟨t, o, a1, b1, b2, ⟨b3.1, b3.2⟩⟩
section GH
variable {β : Type} {own : String} {cc : ByteArray} {nL : Nat} {rt : Option FieldType} {ini : Bool} {fr lo : Nat} {ob : β → zM → Prop} {Qf : zQf β} {tb : List ExceptionTableEntry} {c0 s0 pc : Nat} {A : List (Nat × Value)} {B : List (Nat × Int64)} {st : List Value} {u : zM} {o : Option (β × zM)}
theorem go_callCR {rvb : β → Option Value} {k idx n bn ci lo0 hi0 hpc ct : Nat} {vs : List Value} {y : MethodName} {code : ByteArray} {nLy : Nat} {ret : Option FieldType} {fy ly : Nat} {F : zM → Option ((Option Nat ⊕ Nat) × zM)} {f : Option Nat → zM → Option (β × zM)} {h : Nat → zM → Option (β × zM)} {stA : List Value} {C : String} {T : u_T} {N : Nat}
    (hM : zMetT y code nLy ret fy ly rvR (obR k) (.ref bn :: vs) F) (hLV : zLV own idx y code nLy ret n) (hn : vs.length = n) (hcl : zCl[ci]? = some (C, T, N)) (hy : C = y.cls) (hci : ci < 13) (hk : kd bn = ci) (hfr : fy + 1 ≤ fr ∧ 8 + (nLy + 11) + ly ≤ lo) (hcat : (st.map fun v => v.category).sum ≤ 8) (d : decode cc pc = .ok (.invokevirtual idx, 3)) (hst : stA = (Value.ref bn :: vs).reverse ++ st)
    (hcov : ∀ x ∈ tableOf [(lo0, hi0, hpc, ct)], covers x pc = true ∧ x.catchType = ct ∧ x.handlerPc = hpc) (hct : ct ≠ 0) (hlk : Cond.classLink own ct "WheelLand$Fault" ∈ lw_all)
    (g : ∀ (r : Option Nat) (u1 : zM), (∀ n, r = some n → kd n = k) → Go own cc nL rt ini fr lo (tableOf [(lo0, hi0, hpc, ct)]) ob (zQ rvb) c0 s0 (pc + 3) A B (va_rf r :: st) u1 (f r u1))
    (gx : ∀ (nn : Nat) (u1 : zM), kd nn = 11 → Go own cc nL rt ini fr lo (tableOf [(lo0, hi0, hpc, ct)]) ob (zQ rvb) c0 s0 hpc A B [.ref nn] u1 (h nn u1)) : Go own cc nL rt ini fr lo (tableOf [(lo0, hi0, hpc, ct)]) ob (zQ rvb) c0 s0 pc A B stA u (bc (F u) f h) :=
  go_callC hM hLV hn hcl hy hci hk hfr hcat d hst hcov hct hlk (fun a u1 h => ⟨okv_R h, g a u1 fun n q => (h n q).2⟩) gx
/-- what the law needs to call a method with a handler -/
def zLVW (own : String) (idx : Nat) (y : MethodName) (code : ByteArray) (nLy : Nat) (ret : Option FieldType) (hh : List (Nat × Nat × Nat × Nat)) (n : Nat) : Prop := GoodIn lw_all (wsV own idx y.cls y (wsW_ y code nLy ret hh)) ∧ y.cls ≠ "java/lang/invoke/MethodHandle" ∧ y.cls ≠ "java/lang/invoke/VarHandle" ∧ (parseMethodDescriptor y.desc).map (fun d => d.parameters.length) = some n
/-- a call, of any sort, of a contract with any words -/
theorem go_callG {α : Type} {ws : List Cond} {rv : α → Option Value} {oba : α → zM → Prop} {y : MethodName} {fy ly : Nat} {vs : List Value} {F : zM → Option (α × zM)} {f : α → zM → Option (β × zM)} {stA : List Value}
    (hM : ∀ (u : zM) (b : α) (u' : zM), F u = some (b, u') → zWf u → okS u vs → (zWf u' ∧ zEx u u' ∧ oba b u') ∧ ∀ (K : zK) (l : Launch), Met l y ws { frames := fy, cells := mC u' - mC u, slots := mS u' - mS u, locals := ly } (va_Pc (vs.map (cv K u)) (fun U => zKU K U ∧ Cz K U u U.heap)) (zPo K rv b u') (mC u' - mC u) (mS u' - mS u) (zA K)) (hst : stA = vs.reverse ++ st)
    (hrun : ∀ (K : zK) (p : Program) (l : Launch) (e : Env) (R : Room) (s : State) (m : MethodId) (args : Array Value) (below : List Frame) (meth : Method) (c : Code) (H : Heap) (locs : List Loc) (ls : Array Slot) (cells slots mc ms : Nat) (Pc : Array Value → State → Prop) (Qc : Array Value → State → Outcome → State → Prop), zCx own cc nL rt ini fr lo tb K p R s m args meth c → ls.size = nL → Cz K s u H → okS u vs →
      Met l y ws { frames := fy, cells := mc, slots := ms, locals := ly } Pc Qc mc ms (zA K) → FrameBlind Pc → (∀ U : State, U.heap = H → s.WarmedH U.vm → Pc (vs.map (cv K u)).toArray U) → cells + mc ≤ R.cells ∧ slots + ms ≤ R.slots →
      va_Run p l e R s m args below meth c H locs cells slots mc ms (F0 m pc ls (stA.map (cv K u))) (st.map (cv K u)) (Qc (vs.map (cv K u)).toArray) (zA K))
    (g : ∀ (a : α) (u1 : zM), oba a u1 → (∀ v, rv a = some v → okV u1 v) ∧ Go own cc nL rt ini fr lo tb ob Qf c0 s0 (pc + 3) A B ((rv a).toList ++ st) u1 (f a u1)) : Go own cc nL rt ini fr lo tb ob Qf c0 s0 pc A B stA u (bd (F u) f) := by
  intro b u' ho hwf hA hS
  unfold bd at ho
  cases hF : F u with
  | none => rw [hF] at ho; cases ho
  | some z =>
    obtain ⟨a, u1⟩ := z
    rw [hF] at ho
    have hvs : okS u vs := fun v hv => hS v (by rw [hst]; exact List.mem_append_left _ (List.mem_reverse.mpr hv))
    have hst' : okS u st := fun v hv => hS v (by rw [hst]; exact List.mem_append_right _ hv)
    obtain ⟨⟨w1, w2, w3⟩, hMet⟩ := hM u a u1 hF hwf hvs
    obtain ⟨gv, gg⟩ := g a u1 w3
    obtain ⟨h1, h2⟩ := gg b u' ho w1 (hA.ex w2) (fun v hv => by
      rcases List.mem_append.mp hv with q | q
      · cases hr : rv a with
        | none => rw [hr] at q; cases q
        | some x =>
          rw [hr] at q
          rw [List.mem_singleton.mp q]
          exact gv x hr
      · exact (hst' v q).ex w2)
    refine ⟨⟨h1.1, w2.tr h1.2.1, h1.2.2⟩, fun K p l e R s m args below meth c H locs ls hc q1 q2 q3 q4 hC hV hL => ?_⟩
    have m1 := w2.1
    have m2 := w2.2.1
    have m3 := h1.2.1.1
    have m4 := h1.2.1.2.1
    have hr := hrun K p l e R s m args below meth c H locs ls (mC u - c0) (mS u - s0) (mC u1 - mC u) (mS u1 - mS u) _ _ hc hL.1 hC hvs (hMet K l) (fun a0 U0 g0 mk0 q => ⟨q.1, (zKU.same (s := U0) (U := U0.calling g0 mk0 a0) rfl q.2.1), Cz.moved (s := U0) (U := U0.calling g0 mk0 a0) (Vm.Alike.refl U0.vm) q.2.2⟩) (fun U hU hW => ⟨rfl, hc.2.2.2.2.2.2.2.2.2.2.1.warm hW, by rw [hU]; exact hC.moved hW.alike⟩) ⟨by omega, by omega⟩
    intro T hT X
    obtain ⟨v, st₀, t, T', L, z0', X', hL', e1, e2, ⟨hv, hCt, hF1, hF2⟩, stp⟩ := hr T hT X
    cases Outcome.returned.inj hv
    have hV1 : va_S (zA K) s.heap T'.heap (locs ++ L) := by
      rw [z0'] at hF1 hF2
      exact ⟨Nat.le_trans hV.1 (by rw [e1]; exact hF1), fun q a1 a2 => by rw [e1, hF2 q (Nat.lt_of_lt_of_le a1 hV.1) a2]; exact hV.2.1 q a1 a2, fun q hq => by
        rcases List.mem_append.mp hq with h | h
        · exact hV.2.2 q h
        · exact hL' q h⟩
    have hC1 : Cz K s u1 T'.heap := by
      rw [e1]
      exact hCt.moved (by rw [← e2]; exact X'.warmed.alike.symm)
    have k := h2 K p l e R s m args below meth c T'.heap (locs ++ L) ls hc (by omega) (by omega) q3 q4 hC1 hV1 (hL.ex hA w2)
    have n1 : mC u1 - c0 = mC u - c0 + (mC u1 - mC u) := by omega
    have n2 : mS u1 - s0 = mS u - s0 + (mS u1 - mS u) := by omega
    rw [n1, n2, List.map_append, cvS_ex hst' w2] at k
    have n3 : ((rv a).toList.map (cv K u1)) = ((rv a).map (cv K u1)).toList := by cases rv a <;> rfl
    rw [n3] at k
    obtain ⟨t2, a1, b1⟩ := k T' rfl X'
    exact ⟨t2, stp t2 a1, b1⟩
theorem go_callVW {idx n bn ci : Nat} {hh : List (Nat × Nat × Nat × Nat)} {vs : List Value} {y : MethodName} {code : ByteArray} {nLy : Nat} {ret : Option FieldType} {fy ly : Nat} {F : zM → Option (Int32 × zM)} {f : Int32 → zM → Option (β × zM)} {stA : List Value} {C : String} {T : u_T} {N : Nat}
    (hM : zMetW y code nLy ret hh fy ly rvI obT (.ref bn :: vs) F) (hLV : zLVW own idx y code nLy ret hh n) (hn : vs.length = n) (hcl : zCl[ci]? = some (C, T, N)) (hy : C = y.cls) (hci : ci < 13) (hk : kd bn = ci) (hfr : fy + 1 ≤ fr ∧ 8 + (nLy + 11) + ly ≤ lo) (hcat : (st.map fun v => v.category).sum ≤ 8) (d : decode cc pc = .ok (.invokevirtual idx, 3)) (hst : stA = (Value.ref bn :: vs).reverse ++ st)
    (g : ∀ (r : Int32) (u1 : zM), Go own cc nL rt ini fr lo tb ob Qf c0 s0 (pc + 3) A B (.int r :: st) u1 (f r u1)) : Go own cc nL rt ini fr lo tb ob Qf c0 s0 pc A B stA u (bd (F u) f) := by
  subst hst
  subst hy
  refine go_callG hM rfl (fun K p l e R s m args below meth c H locs ls cells slots mc ms Pc Qc hc hls hC hvs hM' hbl hp hcs => ?_) (fun a u1 h => ⟨okv_I, g a u1⟩)
  have hn' : al u bn := okV_ref.mp (okS_cons.mp hvs).1
  have hrecv : ∃ cell : Cell, H[ad K u bn]? = some cell ∧ cell.vm.isStatics = false ∧ s.vm.findClass y.cls = some cell.cls := by
    obtain ⟨r', hr', cellV, g1, g2, g3, -⟩ := zAt_obj hC hn' hk hci
    exact ⟨cellV, g1, by rw [g3]; rfl, by rw [g2]; exact (hc.2.2.2.2.2.2.2.2.2.2.1.1.1 ci _ hcl).2.1⟩
  refine vz_runVW (As := vs.map (cv K u)) (rest := st.map (cv K u)) (C := y.cls) ⟨hc.1, hc.2.1, hc.2.2.2.1, hc.2.2.2.2.1, hc.2.2.2.2.2.1⟩ hM' (vz_cwVW n hc.2.2.2.2.2.1 hLV.1 rfl rfl rfl ⟨rfl, hLV.2⟩ ⟨Nat.le_trans hfr.1 hc.2.2.2.2.2.2.2.2.1, Nat.le_trans hfr.2 hc.2.2.2.2.2.2.2.2.2.1⟩) ⟨hbl, hrecv, hp⟩ rfl (by rw [List.length_map]; exact hn) hls ?_ (lv_room (cats_cv hcat)) d hcs
  show ((Value.ref bn :: vs).reverse ++ st).map (cv K u) = _
  rw [List.reverse_cons, List.append_assoc, List.map_append, List.map_reverse]
  rfl
end GH
