set_option maxRecDepth 100000
/-! ===== Strings: calls on constants; the index check of the JDK ===== -/
section GS
variable {β : Type} {own : String} {cc : ByteArray} {nL : Nat} {rt : Option FieldType} {ini : Bool} {fr lo : Nat} {tb : List ExceptionTableEntry} {ob : β → zM → Prop} {Qf : zQf β} {c0 s0 pc : Nat} {A : List (Nat × Value)} {B : List (Nat × Int64)} {st : List Value} {u : zM} {o : Option (β × zM)}
theorem go_callVT {idx n bn : Nat} {vs : List Value} {y : MethodName} {code : ByteArray} {nLy : Nat} {ret : Option FieldType} {fy ly : Nat} {F : zM → Option (Int32 × zM)} {f : Int32 → zM → Option (β × zM)} {stA : List Value}
    (hM : zMet y code nLy ret fy ly rvI obT (.ref bn :: vs) F) (hLV : zLV own idx y code nLy ret n) (hn : vs.length = n) (hy : "java/lang/String" = y.cls) (hk : kd bn = 27) (hfr : fy + 1 ≤ fr ∧ 8 + (nLy + 11) + ly ≤ lo) (hcat : (st.map fun v => v.category).sum ≤ 8) (d : decode cc pc = .ok (.invokevirtual idx, 3)) (hst : stA = (Value.ref bn :: vs).reverse ++ st)
    (g : ∀ (r : Int32) (u1 : zM), Go own cc nL rt ini fr lo tb ob Qf c0 s0 (pc + 3) A B (.int r :: st) u1 (f r u1)) : Go own cc nL rt ini fr lo tb ob Qf c0 s0 pc A B stA u (bd (F u) f) := by
  subst hst
  intro b0 u0 ho0 hwf0 hA0 hS0
  refine (go_call hM rfl (fun K p l e R s m args below meth c H locs ls cells slots mc ms Pc Qc hc hls hC hvs hM' hbl hp hcs => ?_) (fun a u1 h => ⟨okv_I, g a u1⟩)) b0 u0 ho0 hwf0 hA0 hS0
  have hn' := str_nm hwf0 (okV_ref.mp (okS_cons.mp hvs).1) hk
  have hrecv : ∃ cell : Cell, H[ad K u bn]? = some cell ∧ cell.vm.isStatics = false ∧ s.vm.findClass y.cls = some cell.cls := by
    obtain ⟨cell, g1, g2, g3, -⟩ := (hC.2.2.2.1.1.1 _ hn'.1).1
    have e1 : ad K u bn = K.2.2.1 (nK bn) := by unfold ad; rw [if_pos hk]
    exact ⟨cell, by rw [e1]; exact g1, g2, by rw [← hy]; exact g3⟩
  refine va_runV (As := vs.map (cv K u)) (rest := st.map (cv K u)) (C := y.cls) ⟨hc.1, hc.2.1, hc.2.2.2.1, hc.2.2.2.2.1, hc.2.2.2.2.2.1⟩ hM' (cwV n hc.2.2.2.2.2.1 hLV.1 rfl rfl rfl ⟨rfl, hLV.2⟩ ⟨Nat.le_trans hfr.1 hc.2.2.2.2.2.2.2.2.1, Nat.le_trans hfr.2 hc.2.2.2.2.2.2.2.2.2.1⟩) ⟨hbl, hrecv, hp⟩ rfl (by rw [List.length_map]; exact hn) hls ?_ (lv_room (cats_cv hcat)) d hcs
  show ((Value.ref bn :: vs).reverse ++ st).map (cv K u) = _
  rw [List.reverse_cons, List.append_assoc, List.map_append, List.map_reverse]
  rfl
theorem go_callSV {idx n : Nat} {vs : List Value} {y : MethodName} {code : ByteArray} {nLy : Nat} {ret : Option FieldType} {fy ly : Nat} {F : zM → Option (Unit × zM)} {f : Unit → zM → Option (β × zM)} {stA : List Value}
    (hM : zMet y code nLy ret fy ly rvV obT vs F) (hLV : zLS own idx y code nLy ret n) (hn : vs.length = n) (hfr : fy + 1 ≤ fr ∧ 8 + (nLy + 11) + ly ≤ lo) (hcat : (st.map fun v => v.category).sum ≤ 8) (d : decode cc pc = .ok (.invokestatic idx, 3)) (hst : stA = vs.reverse ++ st)
    (g : ∀ (r : Unit) (u1 : zM), Go own cc nL rt ini fr lo tb ob Qf c0 s0 (pc + 3) A B st u1 (f r u1)) : Go own cc nL rt ini fr lo tb ob Qf c0 s0 pc A B stA u (bd (F u) f) := go_callS hM hLV hn hfr hcat d hst fun a u1 h => ⟨okv_V, g a u1⟩
/-- Preconditions.checkIndex(i, n, formatter), within -/
theorem raw_ck (l : Launch) (i n : Int32) (v : Value) (hv : v = .null ∨ ∃ a, v = .ref a) (h0 : ¬ i < 0) (h1 : i < n) : Met l yJ4_checkIndex (ws_ yJ4_checkIndex cJ4_checkIndex 3 (some .int)) { frames := 0, cells := 0, slots := 0, locals := 0 } (va_Pc [.int i, .int n, v] (fun _ => True)) (fun _ st oc t => oc = .returned (some (.int i)) ∧ t.heap = st.heap) 0 0 (fun _ => False) := by
  refine Met.ofW (cc := cJ4_checkIndex) (maxL := 3) (ret := some .int) (by decide +kernel) rfl ?_
  intro p e s m args below meth c s₁ B hml hv'
  obtain ⟨rfl, -⟩ := hv'
  have hx := B.exec
  have hb := B.bytes
  have hr := B.returns
  have hlocks := B.notSynchronized
  have hl := lv_entry [.int i, .int n, v] (n := 3) (by rcases hv with rfl | ⟨a, rfl⟩ <;> exact Nat.le_of_ble_eq_true rfl)
  rw [lg_entry_eq]
  generalize (lg_sl [Value.int i, .int n, v] ++ List.replicate (3 - (lg_sl [Value.int i, .int n, v]).length) Slot.unset).toArray = ls at hl ⊢
  have hl : lv_has ls 3 [(0, .int i), (1, .int n), (2, v)] := hl
  refine lv_iload_n hx hb dJ4_checkIndex_0 rfl (lv_at hl 0 rfl) ?_
  refine lv_if_lt (tgt := 9) hx hb dJ4_checkIndex_1 (by decide) (fun q => absurd q h0) (fun _ => ?_)
  refine lv_iload_n hx hb dJ4_checkIndex_4 rfl (lv_at hl 0 rfl) ?_
  refine lv_iload_n hx hb dJ4_checkIndex_5 rfl (lv_at hl 1 rfl) ?_
  refine lv_icmp_lt (tgt := 16) hx hb dJ4_checkIndex_6 (by decide) (fun _ => ?_) (fun q => absurd h1 q)
  refine lv_iload_n hx hb dJ4_checkIndex_16 rfl (lv_at hl 0 rfl) ?_
  exact W.iret (v := i) hx hb hr (fun t ht hW => ⟨rfl, ht⟩) (fun q h => by cases h) dJ4_checkIndex_17
def gck {γ : Type} (i n : Int32) (o : Option γ) : Option γ := if ¬ i < 0 ∧ i < n then o else none
theorem go_ckIdx {i n : Int32} {i1 i2 : Nat} (d1 : decode cc pc = .ok (.getstatic i1, 3)) (d2 : decode cc (pc + 3) = .ok (.invokestatic i2, 3)) (d3 : decode cc (pc + 6) = .ok (.pop, 1)) (h1 : Cond.fieldLink own i1 "jdk/internal/util/Preconditions" "SIOOBE_FORMATTER" "Ljava/util/function/BiFunction;" ∈ lw_all) (hLV : zLS own i2 yJ4_checkIndex cJ4_checkIndex 3 (some .int) 3) (hfr : 0 + 1 ≤ fr ∧ 8 + (3 + 11) + 0 ≤ lo) (hcat : (st.map fun v => v.category).sum ≤ 8) (g : Go own cc nL rt ini fr lo tb ob Qf c0 s0 (pc + 7) A B st u o) : Go own cc nL rt ini fr lo tb ob Qf c0 s0 pc A B (.int n :: .int i :: st) u (gck i n o) := by
  intro b u' ho hwf hA hS
  unfold gck at ho
  split at ho
  · rename_i hin
    have hS2 := (okS_cons.mp (okS_cons.mp hS).2).2
    obtain ⟨k1, k2⟩ := g b u' ho hwf hA hS2
    refine ⟨k1, fun K p l e R s m args below meth c H locs ls hc q1 q2 q3 q4 hC hV hL => ?_⟩
    have kk := k2 K p l e R s m args below meth c H locs ls hc q1 q2 q3 q4 hC hV hL
    have z1 := k1.2.1.1
    have z2 := k1.2.1.2.1
    have key : ∀ v : Value, (v = .null ∨ ∃ a, v = .ref a) → va_Z "jdk/internal/util/Preconditions" "SIOOBE_FORMATTER" "Ljava/util/function/BiFunction;" v (zA K) s H → W p l e R s m args below meth c H locs (mC u - c0) (mS u - s0) (Qf K below args s (mC u' - c0) (mS u' - s0) b u') (F0 m pc ls (.int n :: .int i :: st.map (cv K u))) := by
      intro v hv hZ
      obtain ⟨cf, kf, fi, f, a, cell, g1, g2, g3, g4, g5, g6, g7, g8⟩ := hZ
      refine W.gets hc.1 hc.2.1 hc.2.2.2.2.1 (hc.2.2.2.2.2.1 _ h1) g1 g2 g3 g4 g5 (fun e => by rw [e] at g6; cases g6) g7 rfl d1 ?_
      have hr := va_runS (e := e) (meth := meth) (below := below) (As := [.int i, .int n, v]) (rest := st.map (cv K u)) (g := F0 m (pc + 3) ls (v :: .int n :: .int i :: st.map (cv K u))) (H := H) (locs := locs) (cells := mC u - c0) (slots := mS u - s0) ⟨hc.1, hc.2.1, hc.2.2.2.1, hc.2.2.2.2.1, hc.2.2.2.2.2.1⟩ (raw_ck l i n v hv hin.1 hin.2) (va_cwS 3 hc.2.2.2.2.2.1 hLV.1 rfl rfl rfl hLV.2 ⟨Nat.le_trans hfr.1 hc.2.2.2.2.2.2.2.2.1, Nat.le_trans hfr.2 hc.2.2.2.2.2.2.2.2.2.1⟩) ⟨fun a U g mk q => ⟨q.1, trivial⟩, fun U hU hW => ⟨rfl, trivial⟩⟩ rfl rfl hL.1 rfl (lv_room (cats_cv hcat)) d2 ⟨by show _ + 0 ≤ _; omega, by show _ + 0 ≤ _; omega⟩
      intro T hT X
      obtain ⟨v1, st₀, t, T', L, z0', X', hL', e1, e2, ⟨hv1, hh⟩, stp⟩ := hr T hT X
      cases Outcome.returned.inj hv1
      have hL0 : L = [] := by
        cases L with
        | nil => rfl
        | cons q L => exact absurd (hL' q List.mem_cons_self) (fun h => h)
      subst hL0
      rw [List.append_nil] at X'
      obtain ⟨t2, a1, b1⟩ := (lv_pop hc.1 hc.2.1 d3 (va := .int i) rfl kk) T' (by rw [e1, hh, z0']) X'
      exact ⟨t2, stp t2 a1, b1⟩
    rcases hC.2.2.2.1.2.2.1 with hZ | ⟨t, hZ⟩
    · exact key _ (Or.inl rfl) hZ
    · exact key _ (Or.inr ⟨_, rfl⟩) hZ
  · cases ho
end GS
