set_option maxRecDepth 100000
theorem pa_J6_7_11 : zPA false RJ6 7 11 0 (.object "java/lang/Throwable") := ⟨RX11, TX11, 7, "java/lang/Throwable", tyX11, rfl, in_X11, by decide, rfl, by decide, tyX11_ok, nmX11, Or.inl q902, Or.inl rfl, rfl, (fun h => by cases h), by decide +kernel⟩
theorem pa_J6_17_11 : zPA false RJ6 17 11 1 (.array (.object "java/lang/StackTraceElement")) := ⟨RX11, TX11, 7, "java/lang/Throwable", tyX11, rfl, in_X11, by decide, rfl, by decide, tyX11_ok, nmX11, Or.inl q903, Or.inl rfl, rfl, (fun h => by cases h), by decide +kernel⟩
theorem pa_J6_24_11 : zPA false RJ6 24 11 2 (.object "java/util/List") := ⟨RX11, TX11, 7, "java/lang/Throwable", tyX11, rfl, in_X11, by decide, rfl, by decide, tyX11_ok, nmX11, Or.inl q904, Or.inl rfl, rfl, (fun h => by cases h), by decide +kernel⟩
theorem pa_J6_31_11 : zPA false RJ6 31 11 3 (.object "java/lang/String") := ⟨RX11, TX11, 7, "java/lang/Throwable", tyX11, rfl, in_X11, by decide, rfl, by decide, tyX11_ok, nmX11, Or.inl q901, Or.inl rfl, rfl, (fun h => by cases h), by decide +kernel⟩
theorem pa_X11_7_11 : zPA true RX11 7 11 6 (.int) := ⟨RX11, TX11, 7, "WheelLand$Fault", tyX11, rfl, in_X11, by decide, rfl, by decide, tyX11_ok, nmX11, Or.inl q898, Or.inl rfl, rfl, (fun _ => rfl), by decide +kernel⟩
theorem lk_J7_16 : zLI RJ7 16 yJ6_init_2 cJ6_init_2 5 4 := ⟨lw_meth q897, q112, q895, q896, rfl, by decide +kernel, by decide +kernel, by decide +kernel⟩
theorem lk_J8_16 : zLI RJ8 16 yJ7_init cJ7_init 5 4 := ⟨lw_meth q894, q113, q892, q893, rfl, by decide +kernel, by decide +kernel, by decide +kernel⟩
theorem lk_X11_1 : zLI RX11 1 yJ8_init cJ8_init 5 4 := ⟨lw_meth q891, q114, q889, q890, rfl, by decide +kernel, by decide +kernel, by decide +kernel⟩
/-- a Fault's cell, at a; what the constructors of the exceptions find -/
def thrP (K : zK) (a : Nat) (d0 pl : Int32) : State → Prop := fun U => zKU K U ∧ zSt K U U.heap ∧ zA K a ∧ va_at K.1 zCl (a, .inr (11, [.null, .null, .null, .null, .null, .int d0, .int pl])) U.heap
def thrQ (K : zK) (a : Nat) (d0 pl : Int32) : Array Value → State → Outcome → State → Prop := fun _ st oc t => oc = .returned none ∧ va_at K.1 zCl (a, .inr (11, [.null, .null, .null, .null, .null, .int d0, .int pl])) t.heap ∧ t.heap.size = st.heap.size ∧ ∀ q, q ≠ a → t.heap[q]? = st.heap[q]?
theorem thrP_blind {K : zK} {a : Nat} {d0 pl : Int32} {av : List Value} : FrameBlind (va_Pc av (thrP K a d0 pl)) := fun a0 U0 g0 mk0 q => ⟨q.1, zKU.same (s := U0) (U := U0.calling g0 mk0 a0) rfl q.2.1, zSt.moved (u := U0) (U := U0.calling g0 mk0 a0) (Vm.Alike.refl U0.vm) q.2.2.1, q.2.2.2.1, q.2.2.2.2⟩

theorem raw_thr (l : Launch) (K : zK) (a : Nat) (d0 pl : Int32) : Met l yJ6_init_2 (ws_ yJ6_init_2 cJ6_init_2 5 none) { frames := 1, cells := 0, slots := 0, locals := 20 } (va_Pc [.ref a, .null, .null, .int 0, .int 0] (thrP K a d0 pl)) (thrQ K a d0 pl) 0 0 (fun q => q = a) := by
  refine Met.ofW (cc := cJ6_init_2) (maxL := 5) (ret := none) (by decide +kernel) rfl ?_
  intro p e s m args below meth c s₁ B hml hv
  obtain ⟨rfl, hKU, hSt, hza, hat⟩ := hv
  have hx := B.exec
  have hb := B.bytes
  have hr := B.returns
  have hts := atoms_spec (ws := ws_ yJ6_init_2 cJ6_init_2 5 none) B.pre
  have hts : ∀ w ∈ lw_all, w.before _ s = true := fun w h => hts w (List.mem_cons_of_mem _ h)
  have hown : s.vm.findClass RJ6 = some m.cls := findClass_of_methodNamed B.named
  have hlocks := B.notSynchronized
  have hl := lv_entry [.ref a, .null, .null, .int 0, .int 0] (n := 5) (Nat.le_of_ble_eq_true rfl)
  rw [lg_entry_eq]
  generalize (lg_sl [Value.ref a, .null, .null, .int 0, .int 0] ++ List.replicate (5 - (lg_sl [Value.ref a, .null, .null, .int 0, .int 0]).length) Slot.unset).toArray = ls at hl ⊢
  have hl : lv_has ls 5 [(0, .ref a), (1, .null), (2, .null), (3, .int 0), (4, .int 0)] := hl
  have hS : va_S (fun q => q = a) s.heap s.heap [] := va_S.rf
  have hZ : s.heap.size = s.heap.size ∧ ∀ q, q ≠ a → s.heap[q]? = s.heap[q]? := ⟨rfl, fun _ _ => rfl⟩
  refine lv_aload_n hx hb dJ6_init_2_0 rfl (lv_at hl 0 rfl) ?_
  refine W.objInit hx hb hown (hts _ q872) (hts _ q124) (hts _ q125) rfl (by rw [hml]; exact hl.1) rfl dJ6_init_2_1 (Nat.le_of_ble_eq_true rfl) (Nat.le_of_ble_eq_true rfl) ?_
  refine W.eq (g2 := F0 m 4 ls []) rfl ?_
  refine lv_aload_n hx hb dJ6_init_2_4 rfl (lv_at hl 0 rfl) ?_
  refine lv_aload_n hx hb dJ6_init_2_5 rfl (lv_at hl 0 rfl) ?_
  refine zw_put (A := fun q => q = a) (v := .ref a) pa_J6_7_11 hx hb hts hown hKU.1 hKU.2.1 (fun h => by cases h) hat hS rfl rfl rfl (by simp [zN]) dJ6_init_2_6 (fun H1 locs1 z1 z2 hat' hS' => ?_)
  have hat : va_at K.1 zCl (a, .inr (11, [.ref a, .null, .null, .null, .null, .int d0, .int pl])) H1 := hat'
  have hSt := hSt.kept (fun q _ h => z2 q (fun e => h (by rw [e]; exact hza)))
  have hZ : H1.size = s.heap.size ∧ ∀ q, q ≠ a → H1[q]? = s.heap[q]? := ⟨z1.trans hZ.1, fun q h => (z2 q h).trans (hZ.2 q h)⟩
  have hS := hS'
  generalize H1 = H at hat hSt hZ hS ⊢
  generalize locs1 = locs at hS ⊢
  refine lv_aload_n hx hb dJ6_init_2_9 rfl (lv_at hl 0 rfl) ?_
  obtain ⟨v1, hv1, cf, kf, fi, f, aa, cell, g1, g2, g3, g4, g5, g6, g7, g8⟩ : ∃ v, (v = Value.null ∨ ∃ t, v = .ref t) ∧ va_Z "java/lang/Throwable" "UNASSIGNED_STACK" "[Ljava/lang/StackTraceElement;" v (zA K) s H := by
    rcases hSt.2.2.2.1 with h | ⟨t, h⟩
    · exact ⟨_, Or.inl rfl, h⟩
    · exact ⟨_, Or.inr ⟨t, rfl⟩, h⟩
  refine W.gets hx hb hown (hts _ q873) g1 g2 g3 g4 g5 (fun e => by rw [e] at g6; cases g6) g7 rfl dJ6_init_2_10 ?_
  refine W.eq (g2 := F0 m 13 ls [v1, .ref a]) rfl ?_
  refine zw_put (A := fun q => q = a) (v := v1) pa_J6_17_11 hx hb hts hown hKU.1 hKU.2.1 (fun h => by cases h) hat hS rfl (by rcases hv1 with rfl | ⟨t, rfl⟩ <;> rfl) (by rcases hv1 with rfl | ⟨t, rfl⟩ <;> rfl) (by simp [zN]) dJ6_init_2_13 (fun H1 locs1 z1 z2 hat' hS' => ?_)
  have hat : va_at K.1 zCl (a, .inr (11, [.ref a, v1, .null, .null, .null, .int d0, .int pl])) H1 := hat'
  have hSt := hSt.kept (fun q _ h => z2 q (fun e => h (by rw [e]; exact hza)))
  have hZ : H1.size = s.heap.size ∧ ∀ q, q ≠ a → H1[q]? = s.heap[q]? := ⟨z1.trans hZ.1, fun q h => (z2 q h).trans (hZ.2 q h)⟩
  have hS := hS'
  generalize H1 = H at hat hSt hZ hS ⊢
  generalize locs1 = locs at hS ⊢
  refine lv_aload_n hx hb dJ6_init_2_16 rfl (lv_at hl 0 rfl) ?_
  obtain ⟨v2, hv2, cf, kf, fi, f, aa, cell, g1, g2, g3, g4, g5, g6, g7, g8⟩ : ∃ v, (v = Value.null ∨ ∃ t, v = .ref t) ∧ va_Z "java/lang/Throwable" "SUPPRESSED_SENTINEL" "Ljava/util/List;" v (zA K) s H := by
    rcases hSt.2.2.2.2 with h | ⟨t, h⟩
    · exact ⟨_, Or.inl rfl, h⟩
    · exact ⟨_, Or.inr ⟨t, rfl⟩, h⟩
  refine W.gets hx hb hown (hts _ q875) g1 g2 g3 g4 g5 (fun e => by rw [e] at g6; cases g6) g7 rfl dJ6_init_2_17 ?_
  refine W.eq (g2 := F0 m 20 ls [v2, .ref a]) rfl ?_
  refine zw_put (A := fun q => q = a) (v := v2) pa_J6_24_11 hx hb hts hown hKU.1 hKU.2.1 (fun h => by cases h) hat hS rfl (by rcases hv2 with rfl | ⟨t, rfl⟩ <;> rfl) (by rcases hv2 with rfl | ⟨t, rfl⟩ <;> rfl) (by simp [zN]) dJ6_init_2_20 (fun H1 locs1 z1 z2 hat' hS' => ?_)
  have hat : va_at K.1 zCl (a, .inr (11, [.ref a, v1, v2, .null, .null, .int d0, .int pl])) H1 := hat'
  have hSt := hSt.kept (fun q _ h => z2 q (fun e => h (by rw [e]; exact hza)))
  have hZ : H1.size = s.heap.size ∧ ∀ q, q ≠ a → H1[q]? = s.heap[q]? := ⟨z1.trans hZ.1, fun q h => (z2 q h).trans (hZ.2 q h)⟩
  have hS := hS'
  generalize H1 = H at hat hSt hZ hS ⊢
  generalize locs1 = locs at hS ⊢
  refine lv_iload hx hb dJ6_init_2_23 (lv_at hl 4 rfl) ?_
  refine lv_if_eq (tgt := 36) hx hb dJ6_init_2_25 (by decide) (fun _ => ?_) (fun q => absurd rfl q)
  refine lv_aload_n hx hb dJ6_init_2_36 rfl (lv_at hl 0 rfl) ?_
  refine lv_null hx hb dJ6_init_2_37 ?_
  refine zw_put (A := fun q => q = a) (v := .null) pa_J6_17_11 hx hb hts hown hKU.1 hKU.2.1 (fun h => by cases h) hat hS rfl rfl rfl (by simp [zN]) dJ6_init_2_38 (fun H1 locs1 z1 z2 hat' hS' => ?_)
  have hat : va_at K.1 zCl (a, .inr (11, [.ref a, .null, v2, .null, .null, .int d0, .int pl])) H1 := hat'
  have hSt := hSt.kept (fun q _ h => z2 q (fun e => h (by rw [e]; exact hza)))
  have hZ : H1.size = s.heap.size ∧ ∀ q, q ≠ a → H1[q]? = s.heap[q]? := ⟨z1.trans hZ.1, fun q h => (z2 q h).trans (hZ.2 q h)⟩
  have hS := hS'
  generalize H1 = H at hat hSt hZ hS ⊢
  generalize locs1 = locs at hS ⊢
  refine lv_aload_n hx hb dJ6_init_2_41 rfl (lv_at hl 0 rfl) ?_
  refine lv_aload_nN hx hb dJ6_init_2_42 rfl (lv_at hl 1 rfl) ?_
  refine zw_put (A := fun q => q = a) (v := .null) pa_J6_31_11 hx hb hts hown hKU.1 hKU.2.1 (fun h => by cases h) hat hS rfl rfl rfl (by simp [zN]) dJ6_init_2_43 (fun H1 locs1 z1 z2 hat' hS' => ?_)
  have hat : va_at K.1 zCl (a, .inr (11, [.ref a, .null, v2, .null, .null, .int d0, .int pl])) H1 := hat'
  have hSt := hSt.kept (fun q _ h => z2 q (fun e => h (by rw [e]; exact hza)))
  have hZ : H1.size = s.heap.size ∧ ∀ q, q ≠ a → H1[q]? = s.heap[q]? := ⟨z1.trans hZ.1, fun q h => (z2 q h).trans (hZ.2 q h)⟩
  have hS := hS'
  generalize H1 = H at hat hSt hZ hS ⊢
  generalize locs1 = locs at hS ⊢
  refine lv_aload_n hx hb dJ6_init_2_46 rfl (lv_at hl 0 rfl) ?_
  refine lv_aload_nN hx hb dJ6_init_2_47 rfl (lv_at hl 2 rfl) ?_
  refine zw_put (A := fun q => q = a) (v := .null) pa_J6_7_11 hx hb hts hown hKU.1 hKU.2.1 (fun h => by cases h) hat hS rfl rfl rfl (by simp [zN]) dJ6_init_2_48 (fun H1 locs1 z1 z2 hat' hS' => ?_)
  have hat : va_at K.1 zCl (a, .inr (11, [.null, .null, v2, .null, .null, .int d0, .int pl])) H1 := hat'
  have hSt := hSt.kept (fun q _ h => z2 q (fun e => h (by rw [e]; exact hza)))
  have hZ : H1.size = s.heap.size ∧ ∀ q, q ≠ a → H1[q]? = s.heap[q]? := ⟨z1.trans hZ.1, fun q h => (z2 q h).trans (hZ.2 q h)⟩
  have hS := hS'
  generalize H1 = H at hat hSt hZ hS ⊢
  generalize locs1 = locs at hS ⊢
  refine lv_iload_n hx hb dJ6_init_2_51 rfl (lv_at hl 3 rfl) ?_
  refine lv_if_ne (tgt := 60) hx hb dJ6_init_2_52 (by decide) (fun q => absurd rfl q) (fun _ => ?_)
  refine lv_aload_n hx hb dJ6_init_2_55 rfl (lv_at hl 0 rfl) ?_
  refine lv_null hx hb dJ6_init_2_56 ?_
  refine zw_put (A := fun q => q = a) (v := .null) pa_J6_24_11 hx hb hts hown hKU.1 hKU.2.1 (fun h => by cases h) hat hS rfl rfl rfl (by simp [zN]) dJ6_init_2_57 (fun H1 locs1 z1 z2 hat' hS' => ?_)
  have hat : va_at K.1 zCl (a, .inr (11, [.null, .null, .null, .null, .null, .int d0, .int pl])) H1 := hat'
  have hSt := hSt.kept (fun q _ h => z2 q (fun e => h (by rw [e]; exact hza)))
  have hZ : H1.size = s.heap.size ∧ ∀ q, q ≠ a → H1[q]? = s.heap[q]? := ⟨z1.trans hZ.1, fun q h => (z2 q h).trans (hZ.2 q h)⟩
  have hS := hS'
  generalize H1 = H at hat hSt hZ hS ⊢
  generalize locs1 = locs at hS ⊢
  exact W.vret hx hb hr (fun t ht hW => ⟨rfl, by rw [ht]; exact hat, by rw [ht]; exact hZ.1, fun q h => by rw [ht]; exact hZ.2 q h⟩) hS.2.2 dJ6_init_2_60

theorem raw_exc (l : Launch) (K : zK) (a : Nat) (d0 pl : Int32) : Met l yJ7_init (ws_ yJ7_init cJ7_init 5 none) { frames := 2, cells := 0, slots := 0, locals := 60 } (va_Pc [.ref a, .null, .null, .int 0, .int 0] (thrP K a d0 pl)) (thrQ K a d0 pl) 0 0 (fun q => q = a) := by
  refine Met.ofW (cc := cJ7_init) (maxL := 5) (ret := none) (by decide +kernel) rfl ?_
  intro p e s m args below meth c s₁ B hml hv
  obtain ⟨rfl, hKU, hSt, hza, hat⟩ := hv
  have hx := B.exec
  have hb := B.bytes
  have hr := B.returns
  have hts := atoms_spec (ws := ws_ yJ7_init cJ7_init 5 none) B.pre
  have hts : ∀ w ∈ lw_all, w.before _ s = true := fun w h => hts w (List.mem_cons_of_mem _ h)
  have hown : s.vm.findClass RJ7 = some m.cls := findClass_of_methodNamed B.named
  have hlocks := B.notSynchronized
  have hl := lv_entry [.ref a, .null, .null, .int 0, .int 0] (n := 5) (Nat.le_of_ble_eq_true rfl)
  rw [lg_entry_eq]
  generalize (lg_sl [Value.ref a, .null, .null, .int 0, .int 0] ++ List.replicate (5 - (lg_sl [Value.ref a, .null, .null, .int 0, .int 0]).length) Slot.unset).toArray = ls at hl ⊢
  have hl : lv_has ls 5 [(0, .ref a), (1, .null), (2, .null), (3, .int 0), (4, .int 0)] := hl
  refine lv_aload_n hx hb dJ7_init_0 rfl (lv_at hl 0 rfl) ?_
  refine lv_aload_nN hx hb dJ7_init_1 rfl (lv_at hl 1 rfl) ?_
  refine lv_aload_nN hx hb dJ7_init_2 rfl (lv_at hl 2 rfl) ?_
  refine lv_iload_n hx hb dJ7_init_3 rfl (lv_at hl 3 rfl) ?_
  refine lv_iload hx hb dJ7_init_4 (lv_at hl 4 rfl) ?_
  obtain ⟨h1, h2, h3, h4, h5, h6⟩ := lk_J7_16
  have hrun := va_runI (e := e) (meth := meth) (below := below) (b := a) (As := [.null, .null, .int 0, .int 0]) (rest := []) (g := F0 m 6 ls [.int 0, .int 0, .null, .null, .ref a]) (H := s.heap) (locs := []) (cells := 0) (slots := 0) (R := (headSpec (ws_ yJ7_init cJ7_init 5 none) { frames := 2, cells := 0, slots := 0, locals := 60 }).room) ⟨hx, hb, hml, hown, hts⟩ (raw_thr l K a d0 pl) (cwI 4 hts h1 rfl rfl rfl (hts _ h2) (hts _ h3) (hts _ h4) h5 h6 ⟨Nat.le_of_ble_eq_true rfl, Nat.le_of_ble_eq_true rfl⟩) ⟨thrP_blind, fun U hU hW => ⟨rfl, hKU.warm hW, by rw [hU]; exact hSt.moved hW.alike, hza, by rw [hU]; exact hat⟩⟩ rfl rfl hl.1 rfl (lv_room (Nat.le_of_ble_eq_true rfl)) dJ7_init_6 ⟨Nat.le_refl _, Nat.le_refl _⟩
  intro T hT X
  obtain ⟨v, st₀, t, T', L, z0', X', hL', e1, e2, ⟨hv, q1, q2, q3⟩, stp⟩ := hrun T hT X
  cases Outcome.returned.inj hv
  have k : W p l e (headSpec (ws_ yJ7_init cJ7_init 5 none) { frames := 2, cells := 0, slots := 0, locals := 60 }).room s m ([.ref a, .null, .null, .int 0, .int 0] : List Value).toArray below meth c T'.heap ([] ++ L) 0 0 (MQ below (thrQ K a d0 pl) ([.ref a, .null, .null, .int 0, .int 0] : List Value).toArray s 0 0 (fun q => q = a)) (F0 m 9 ls []) := W.vret hx hb hr (fun t' ht hW => ⟨rfl, by rw [ht, e1]; exact q1, by rw [ht, e1, q2, z0'], fun q h => by rw [ht, e1, q3 q h, z0']⟩) (fun q hq => hL' q hq) dJ7_init_9
  obtain ⟨t2, a1, b1⟩ := k T' rfl X'
  exact ⟨t2, stp t2 a1, b1⟩

theorem raw_rte (l : Launch) (K : zK) (a : Nat) (d0 pl : Int32) : Met l yJ8_init (ws_ yJ8_init cJ8_init 5 none) { frames := 3, cells := 0, slots := 0, locals := 100 } (va_Pc [.ref a, .null, .null, .int 0, .int 0] (thrP K a d0 pl)) (thrQ K a d0 pl) 0 0 (fun q => q = a) := by
  refine Met.ofW (cc := cJ8_init) (maxL := 5) (ret := none) (by decide +kernel) rfl ?_
  intro p e s m args below meth c s₁ B hml hv
  obtain ⟨rfl, hKU, hSt, hza, hat⟩ := hv
  have hx := B.exec
  have hb := B.bytes
  have hr := B.returns
  have hts := atoms_spec (ws := ws_ yJ8_init cJ8_init 5 none) B.pre
  have hts : ∀ w ∈ lw_all, w.before _ s = true := fun w h => hts w (List.mem_cons_of_mem _ h)
  have hown : s.vm.findClass RJ8 = some m.cls := findClass_of_methodNamed B.named
  have hlocks := B.notSynchronized
  have hl := lv_entry [.ref a, .null, .null, .int 0, .int 0] (n := 5) (Nat.le_of_ble_eq_true rfl)
  rw [lg_entry_eq]
  generalize (lg_sl [Value.ref a, .null, .null, .int 0, .int 0] ++ List.replicate (5 - (lg_sl [Value.ref a, .null, .null, .int 0, .int 0]).length) Slot.unset).toArray = ls at hl ⊢
  have hl : lv_has ls 5 [(0, .ref a), (1, .null), (2, .null), (3, .int 0), (4, .int 0)] := hl
  refine lv_aload_n hx hb dJ8_init_0 rfl (lv_at hl 0 rfl) ?_
  refine lv_aload_nN hx hb dJ8_init_1 rfl (lv_at hl 1 rfl) ?_
  refine lv_aload_nN hx hb dJ8_init_2 rfl (lv_at hl 2 rfl) ?_
  refine lv_iload_n hx hb dJ8_init_3 rfl (lv_at hl 3 rfl) ?_
  refine lv_iload hx hb dJ8_init_4 (lv_at hl 4 rfl) ?_
  obtain ⟨h1, h2, h3, h4, h5, h6⟩ := lk_J8_16
  have hrun := va_runI (e := e) (meth := meth) (below := below) (b := a) (As := [.null, .null, .int 0, .int 0]) (rest := []) (g := F0 m 6 ls [.int 0, .int 0, .null, .null, .ref a]) (H := s.heap) (locs := []) (cells := 0) (slots := 0) (R := (headSpec (ws_ yJ8_init cJ8_init 5 none) { frames := 3, cells := 0, slots := 0, locals := 100 }).room) ⟨hx, hb, hml, hown, hts⟩ (raw_exc l K a d0 pl) (cwI 4 hts h1 rfl rfl rfl (hts _ h2) (hts _ h3) (hts _ h4) h5 h6 ⟨Nat.le_of_ble_eq_true rfl, Nat.le_of_ble_eq_true rfl⟩) ⟨thrP_blind, fun U hU hW => ⟨rfl, hKU.warm hW, by rw [hU]; exact hSt.moved hW.alike, hza, by rw [hU]; exact hat⟩⟩ rfl rfl hl.1 rfl (lv_room (Nat.le_of_ble_eq_true rfl)) dJ8_init_6 ⟨Nat.le_refl _, Nat.le_refl _⟩
  intro T hT X
  obtain ⟨v, st₀, t, T', L, z0', X', hL', e1, e2, ⟨hv, q1, q2, q3⟩, stp⟩ := hrun T hT X
  cases Outcome.returned.inj hv
  have k : W p l e (headSpec (ws_ yJ8_init cJ8_init 5 none) { frames := 3, cells := 0, slots := 0, locals := 100 }).room s m ([.ref a, .null, .null, .int 0, .int 0] : List Value).toArray below meth c T'.heap ([] ++ L) 0 0 (MQ below (thrQ K a d0 pl) ([.ref a, .null, .null, .int 0, .int 0] : List Value).toArray s 0 0 (fun q => q = a)) (F0 m 9 ls []) := W.vret hx hb hr (fun t' ht hW => ⟨rfl, by rw [ht, e1]; exact q1, by rw [ht, e1, q2, z0'], fun q h => by rw [ht, e1, q3 q h, z0']⟩) (fun q hq => hL' q hq) dJ8_init_9
  obtain ⟨t2, a1, b1⟩ := k T' rfl X'
  exact ⟨t2, stp t2 a1, b1⟩

/-- Fault(place): of a new Fault -/
def f_X11_init (self : Nat) (p0 : Int32) (u : zM) : Option (Unit × zM) := if mR u self 0 = none ∧ mR u self 1 = none ∧ mR u self 2 = none ∧ mR u self 3 = none ∧ mR u self 4 = none then lt (sI u self 6 p0) fun u1 => some ((), u1) else none
section
variable {c0 s0 : Nat}
theorem g_X11_init (self : Nat) (p0 : Int32) (t_self : kd self = 11) (u : zM) (hn : mR u self 0 = none ∧ mR u self 1 = none ∧ mR u self 2 = none ∧ mR u self 3 = none ∧ mR u self 4 = none) {ob : Unit → zM → Prop} {Qf : zQf Unit} {A : List (Nat × Value)} {B : List (Nat × Int64)} {o : Option (Unit × zM)} (g : Go RX11 cX11_init 2 none true 4 140 [] ob Qf c0 s0 8 A B [] u o) : Go RX11 cX11_init 2 none true 4 140 [] ob Qf c0 s0 5 A B [.int 0, .int 0, .null, .null, .ref self] u o := by
  intro b u' ho hwf hA hS
  have hal : al u self := okV_ref.mp (hS _ (by simp))
  obtain ⟨h1, h2⟩ := g b u' ho hwf hA okS_nil
  refine ⟨h1, fun K p l e R s m args below meth c H locs ls hc q1 q2 q3 q4 hC hV hL => ?_⟩
  have hts := hc.2.2.2.2.2.1
  have hat := zAt_obj hC hal t_self (by decide)
  have hat' : va_at K.1 zCl (ad K u self, .inr (11, [.null, .null, .null, .null, .null, .int (mI u self 5), .int (mI u self 6)])) H := by
    have e9 : (List.range (zN 11)).map (fun k => if fT 11 k = 0 then Value.int (mI u self k) else va_rf ((mR u self k).map (ad K u))) = [.null, .null, .null, .null, .null, .int (mI u self 5), .int (mI u self 6)] := by
      show [va_rf ((mR u self 0).map (ad K u)), va_rf ((mR u self 1).map (ad K u)), va_rf ((mR u self 2).map (ad K u)), va_rf ((mR u self 3).map (ad K u)), va_rf ((mR u self 4).map (ad K u)), Value.int (mI u self 5), Value.int (mI u self 6)] = _
      rw [hn.1, hn.2.1, hn.2.2.1, hn.2.2.2.1, hn.2.2.2.2]
      rfl
    rw [← e9]; exact hat
  obtain ⟨w1, w2, w3, w4, w5, w6⟩ := lk_X11_1
  have hza : zA K (ad K u self) := ad_A (by omega)
  have m1 := h1.2.1.1
  have m2 := h1.2.1.2.1
  have hrun := va_runI (e := e) (meth := meth) (below := below) (b := ad K u self) (As := [.null, .null, .int 0, .int 0]) (rest := []) (g := F0 m 5 ls [.int 0, .int 0, .null, .null, .ref (ad K u self)]) (H := H) (locs := locs) (cells := mC u - c0) (slots := mS u - s0) (R := R) ⟨hc.1, hc.2.1, hc.2.2.2.1, hc.2.2.2.2.1, hts⟩ (raw_rte l K (ad K u self) (mI u self 5) (mI u self 6)) (cwI 4 hts w1 rfl rfl rfl (hts _ w2) (hts _ w3) (hts _ w4) w5 w6 ⟨Nat.le_trans (by decide) hc.2.2.2.2.2.2.2.2.1, Nat.le_trans (by decide) hc.2.2.2.2.2.2.2.2.2.1⟩) ⟨thrP_blind, fun U hU hW => ⟨rfl, hc.2.2.2.2.2.2.2.2.2.2.1.warm hW, by rw [hU]; exact hC.2.2.2.1.moved hW.alike, hza, by rw [hU]; exact hat'⟩⟩ rfl rfl hL.1 rfl (lv_room (Nat.le_of_ble_eq_true rfl)) dX11_init_5 ⟨by show _ + 0 ≤ _; omega, by show _ + 0 ≤ _; omega⟩
  intro T hT X
  obtain ⟨v, st₀, t, T', L, z0', X', hL', e1, e2, ⟨hv, p1, p2, p3⟩, stp⟩ := hrun T hT X
  cases Outcome.returned.inj hv
  have hq : ∀ q, q ≠ ad K u self → T'.heap[q]? = H[q]? := fun q h => by rw [e1, p3 q h, z0']
  have hsz : T'.heap.size = H.size := by rw [e1, p2, z0']
  have hC1 : Cz K s u T'.heap := hC.upd hal (by omega) hsz hq rfl rfl rfl (fun _ _ => ⟨rfl, rfl, rfl, rfl⟩) (by
    unfold zAt zCell
    rw [t_self, if_pos (by decide)]
    have e9 : (List.range (zN 11)).map (fun k => if fT 11 k = 0 then Value.int (mI u self k) else va_rf ((mR u self k).map (ad K u))) = [.null, .null, .null, .null, .null, .int (mI u self 5), .int (mI u self 6)] := by
      show [va_rf ((mR u self 0).map (ad K u)), va_rf ((mR u self 1).map (ad K u)), va_rf ((mR u self 2).map (ad K u)), va_rf ((mR u self 3).map (ad K u)), va_rf ((mR u self 4).map (ad K u)), Value.int (mI u self 5), Value.int (mI u self 6)] = _
      rw [hn.1, hn.2.1, hn.2.2.1, hn.2.2.2.1, hn.2.2.2.2]
      rfl
    rw [e9, e1]; exact p1)
  have hV1 : va_S (zA K) s.heap T'.heap (locs ++ L) := ⟨Nat.le_trans hV.1 (by rw [hsz]; exact Nat.le_refl _), fun q a1 a2 => (hq q (fun e => a2 (by rw [e]; exact hza))).trans (hV.2.1 q a1 a2), fun q hq => by
    rcases List.mem_append.mp hq with h | h
    · exact hV.2.2 q h
    · rw [hL' q h]; exact hza⟩
  obtain ⟨t2, a1, b1⟩ := (h2 K p l e R s m args below meth c T'.heap (locs ++ L) ls hc q1 q2 q3 q4 hC1 hV1 hL) T' rfl X'
  exact ⟨t2, stp t2 a1, b1⟩
end
theorem ct_X11_init (self : Nat) (p0 : Int32) (t_self : kd self = 11) : zMet yX11_init cX11_init 2 none 4 140 rvV obT [.ref self, .int p0] (f_X11_init self p0) := by
  refine zMet_of (A := [(0, .ref self), (1, .int p0)]) (B := []) (ini := true) RX11 rfl (by decide +kernel) (fun _ => rfl) (by simp [lg_sl, Value.category]) (by simp [lv_args, Value.category]) rfl (by simp [lv_args, Value.category]) fun u => ?_
  unfold f_X11_init
  refine go_if (fun hn => ?_) (fun _ => go_none)
  refine go_aload_n (pc := 0) (j := 0) (i := 0) dX11_init_0 rfl rfl ?_
  refine go_null (pc := 1) dX11_init_1 ?_
  refine go_null (pc := 2) dX11_init_2 ?_
  refine go_iconst (pc := 3) (v := 0) dX11_init_3 (by decide) ?_
  refine go_iconst (pc := 4) (v := 0) dX11_init_4 (by decide) ?_
  refine g_X11_init self p0 t_self u hn ?_
  refine go_aload_n (pc := 8) (j := 0) (i := 0) dX11_init_8 rfl rfl ?_
  refine go_iload_n (pc := 9) (j := 1) (i := 1) dX11_init_9 rfl rfl ?_
  refine go_putI (pc := 10) (n := self) (ci := 11) (k := 6) (v := p0) pa_X11_7_11 (fun _ => rfl) t_self rfl zKeep_int dX11_init_10 fun u1 => ?_
  exact go_vreturn (pc := 13) rfl dX11_init_13
