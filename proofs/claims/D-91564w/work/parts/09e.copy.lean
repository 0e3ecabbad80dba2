set_option maxRecDepth 100000
/-! ===== System.arraycopy ===== -/
def sCp (u : zM) (src sp dst dp n : Nat) : zM := ((fun a b => if a = dst then va_cpy (u.1 src) (u.1 dst) sp dp n b else u.1 a b), u.2)
theorem mI_sCp (u : zM) (src sp dst dp n a b : Nat) : mI (sCp u src sp dst dp n) a b = if a = dst then va_cpy (mI u src) (mI u dst) sp dp n b else mI u a b := rfl
def gac {γ : Type} (ty : FieldType) (u : zM) (src dst : Nat) (sp dp n : Int32) (o : Option γ) : Option γ := if ¬ sp < 0 ∧ ¬ dp < 0 ∧ ¬ n < 0 ∧ xN sp + xN n ≤ mN u src ∧ xN dp + xN n ≤ mN u dst ∧ (∀ i, i < xN n → fits ty (.int (mI u src (xN sp + i))) = true) then o else none
section GA
variable {β : Type} {own : String} {cc : ByteArray} {nL : Nat} {rt : Option FieldType} {ini : Bool} {fr lo : Nat} {tb : List ExceptionTableEntry} {ob : β → zM → Prop} {Qf : zQf β} {c0 s0 pc : Nat} {A : List (Nat × Value)} {B : List (Nat × Int64)} {st : List Value} {u : zM} {o : Option (β × zM)}
theorem go_acopy {idx ci src dst : Nat} {ty : FieldType} {sp dp n : Int32} {f : zM → Option (β × zM)} (hty : zTy ci = ty) (hprim : refKind ty = false) (h13 : 13 ≤ ci) (h16 : ci < 16) (hs : kd src = ci) (hd : kd dst = ci) (hl : Cond.methodLink own idx arraycopyName ∈ lw_all) (h2 : Cond.native arraycopyName ∈ lw_all) (h3 : Cond.static arraycopyName ∈ lw_all) (h4 : Cond.initialized "java/lang/System" ∈ lw_all) (hfr : 1 ≤ fr) (hlo : (st.map fun v => v.category).sum + (nativeFrameWords "java/lang/System" "arraycopy" 5 + 11) ≤ lo) (d : decode cc pc = .ok (.invokestatic idx, 3)) (g : ∀ u1, Go own cc nL rt ini fr lo tb ob Qf c0 s0 (pc + 3) A B st u1 (f u1)) : Go own cc nL rt ini fr lo tb ob Qf c0 s0 pc A B (.int n :: .int dp :: .ref dst :: .int sp :: .ref src :: st) u (gac ty u src dst sp dp n (lt (sCp u src (xN sp) dst (xN dp) (xN n)) f)) := by
  intro b0 u0 ho0
  unfold gac at ho0
  split at ho0
  case isFalse => cases ho0
  case isTrue hg =>
  obtain ⟨g1, g2, g3, g4, g5, g6⟩ := hg
  revert ho0
  revert b0 u0
  refine go_write (n := dst) (u1 := sCp u src (xN sp) dst (xN dp) (xN n)) (fun hwf _ => ?_) zEx.rf (fun hS => (okS_cons.mp (okS_cons.mp (okS_cons.mp (okS_cons.mp (okS_cons.mp hS).2).2).2).2).2) rfl rfl (fun K p l e R s m args below meth c H locs ls cells slots Q hc hL hwf hS hC hV kk => ?_) (g (sCp u src (xN sp) dst (xN dp) (xN n)))
  · refine ⟨hwf.1, fun i hi => ?_, hwf.2.2⟩
    obtain ⟨k1, k2, k3, k4⟩ := hwf.2.1 i hi
    refine ⟨k1, k2, k3, fun j => ?_⟩
    rw [mI_sCp, if_neg]
    · exact k4 j
    · intro q
      have := congrArg kd q
      rw [kd_nm] at this
      omega
  have nn : ∀ z : Int32, ¬ z < 0 → z.toInt = (z.toNatClampNeg : Int) := by
    intro z hz
    have hz0 : (0 : Int) ≤ z.toInt := by
      have := Int32.not_lt.mp hz
      simpa using Int32.le_iff_toInt_le.mp this
    show z.toInt = ((z.toInt.toNat : Nat) : Int)
    omega
  have hS3 := (okS_cons.mp (okS_cons.mp hS).2).2
  have hnd : al u dst := okV_ref.mp (okS_cons.mp hS3).1
  have hns : al u src := okV_ref.mp (okS_cons.mp (okS_cons.mp (okS_cons.mp hS3).2).2).1
  obtain ⟨cA, a1, a2, a3⟩ := zAt_arr hC hnd hd h13 (by omega)
  obtain ⟨cS, b1, b2, b3⟩ := zAt_arr hC hns hs h13 (by omega)
  rw [if_pos h16] at a3 b3
  have hts := hc.2.2.2.2.2.1
  have hVA : zA K (ad K u dst) := ad_A (by omega)
  intro T hT X
  obtain ⟨-, k0, hk0, cm0, hkk0⟩ := b1 (mN u src) (fun j => .int (mI u src j))
  obtain ⟨-, k1, hk1, cm1, hkk1⟩ := a1 (mN u dst) (fun j => .int (mI u dst j))
  rw [hty] at hkk0 hkk1
  have e9 : (st.map (cv K u)).map (fun v => v.category) = st.map (fun v => v.category) := by
    rw [List.map_map]
    exact List.map_congr_left fun v _ => cat_cv v
  have hlo9 := hc.2.2.2.2.2.2.2.2.2.1
  obtain ⟨vm', X', step⟩ := X.arraycopy hc.1 hc.2.2.2.2.1 (hts _ hl) (hts _ h2) (hts _ h3) (hts _ h4) (src := ad K u src) (dst := ad K u dst) (cs := vp_cell cS (mN u src, .inl (mI u src))) (cd := vp_cell cA (mN u dst, .inl (mI u dst))) (srcPos := sp) (destPos := dp) (n := n) (by rw [hT]; exact b3) (by rw [hT]; exact a3)
    (fun _ h => by cases h) (fun _ h => by cases h) (fun h => by cases h) (fun h => by cases h) hk0 hk1 hkk0 hkk1 (by simp [hprim]) g1 g2 g3
    (by rw [nn sp g1, nn n g3]; show ¬ _ > ((arrV cS (mN u src) (fun j => .int (mI u src j))).slots.size : Int); rw [arrV_size]; simp only [xN] at g4; omega)
    (by rw [nn dp g2, nn n g3]; show ¬ _ > ((arrV cA (mN u dst) (fun j => .int (mI u dst j))).slots.size : Int); rw [arrV_size]; simp only [xN] at g5; omega)
    (fun vm₁ _ i hi => by
      have e : (vp_cell cS (mN u src, .inl (mI u src))).slots.getD (sp.toNatClampNeg + i) .null = .int (mI u src (sp.toNatClampNeg + i)) := by
        show (arrV cS (mN u src) (fun j => .int (mI u src j))).slots.getD _ _ = _
        rw [Array.getD_eq_getD_getElem?, arrV_read _ _ (by simp only [xN] at g4; omega)]
        rfl
      refine ⟨?_, ?_⟩
      · rw [e]
        exact g6 i hi
      · rw [e]
        exact trivial)
    (g := F0 m pc ls (.int n :: .int dp :: .ref (ad K u dst) :: .int sp :: .ref (ad K u src) :: st.map (cv K u))) rfl (by rw [hc.2.2.2.1]; exact hL.1) (rest := st.map (cv K u)) rfl (by rw [hc.2.1]; exact d) (Nat.le_trans hfr hc.2.2.2.2.2.2.2.2.1) (by show 2 * 0 + _ + _ ≤ _; rw [e9]; omega)
  have e1 : copied (vp_cell cS (mN u src, .inl (mI u src))) (vp_cell cA (mN u dst, .inl (mI u dst))) sp dp n = vp_cell cA (mN u dst, .inl (va_cpy (mI u src) (mI u dst) sp.toNatClampNeg dp.toNatClampNeg n.toNatClampNeg)) := va_copied (fun z => .int z) cS cA (mI u src) (mI u dst) g4
  rw [e1] at X' step
  have hlH : ad K u dst < H.size := (Array.getElem?_eq_some_iff.mp a3).1
  have hheap : ((T.setVm vm').setCell (ad K u dst) (vp_cell cA (mN u dst, .inl (va_cpy (mI u src) (mI u dst) sp.toNatClampNeg dp.toNatClampNeg n.toNatClampNeg)))).heap = H.setIfInBounds (ad K u dst) (vp_cell cA (mN u dst, .inl (va_cpy (mI u src) (mI u dst) sp.toNatClampNeg dp.toNatClampNeg n.toNatClampNeg))) := by rw [← hT]; rfl
  have oq : ∀ q : Nat, q ≠ ad K u dst → (H.setIfInBounds (ad K u dst) (vp_cell cA (mN u dst, .inl (va_cpy (mI u src) (mI u dst) sp.toNatClampNeg dp.toNatClampNeg n.toNatClampNeg))))[q]? = H[q]? := fun q hq => by simp [Array.getElem?_setIfInBounds, Ne.symm hq]
  have e2 : mI (sCp u src (xN sp) dst (xN dp) (xN n)) dst = va_cpy (mI u src) (mI u dst) sp.toNatClampNeg dp.toNatClampNeg n.toNatClampNeg := funext fun j => by rw [mI_sCp, if_pos rfl]
  obtain ⟨t, a1', b1'⟩ := kk (H.setIfInBounds (ad K u dst) (vp_cell cA (mN u dst, .inl (va_cpy (mI u src) (mI u dst) sp.toNatClampNeg dp.toNatClampNeg n.toNatClampNeg)))) _ (zArr_ok (u1 := sCp u src (xN sp) dst (xN dp) (xN n)) hC hnd hd h13 (by omega) (by simp) oq rfl rfl rfl rfl (fun n' hn' => ⟨funext fun j => by rw [mI_sCp, if_neg hn'], rfl, rfl, rfl⟩) a1 a2 (by
      rw [if_pos h16, e2]
      simp [Array.getElem?_setIfInBounds, hlH])) ⟨by simp; exact hV.1, fun q g1 g2 => by
      rw [oq q (fun e => g2 (by rw [e]; exact hVA))]
      exact hV.2.1 q g1 g2, fun q hq => by
      rcases List.mem_append.mp hq with h | h
      · exact hV.2.2 q h
      · obtain ⟨z, -, hz⟩ := List.mem_map.mp h
        rw [← hz]
        exact hVA⟩ _ hheap X'
  exact ⟨t, step t a1', b1'⟩
end GA
