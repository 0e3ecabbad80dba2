set_option maxRecDepth 100000
def f_J2_indexOf (p0 : Nat) (p1 : Int32) (p2 : Int32) (p3 : Int32) (u : zM) : Option (Int32 × zM) := bd (f_J2_canEncode p1 u) fun v1 u1 => if v1 = 0 then (some ((-1), u1)) else (if (if p2 < 0 then 0 else p2) < (if (Int32.ofNat (mN u1 p0)) < p3 then (Int32.ofNat (mN u1 p0)) else p3) then (bd (f_J2_indexOfChar p0 p1 (if p2 < 0 then 0 else p2) (if (Int32.ofNat (mN u1 p0)) < p3 then (Int32.ofNat (mN u1 p0)) else p3) u1) fun v2 u2 => some (v2, u2)) else (some ((-1), u1)))
set_option maxHeartbeats 4000000 in
theorem ct_J2_indexOf (p0 : Nat) (p1 : Int32) (p2 : Int32) (p3 : Int32) (t_p0 : kd p0 = 28) : zMet yJ2_indexOf cJ2_indexOf 4 (some .int) 2 40 rvI (obT) [.ref p0, .int p1, .int p2, .int p3] (f_J2_indexOf p0 p1 p2 p3) := by
  refine zMet_of (A := [(0, .ref p0), (1, .int p1), (2, .int p2), (3, .int p3)]) (B := []) (ini := false) RJ2 rfl (by decide +kernel) (fun h => by cases h) (by simp [lg_sl, Value.category]) (by simp [lv_args, Value.category]) rfl (by simp [lv_args, Value.category]) fun u => ?_
  unfold f_J2_indexOf
  refine go_iload_n (pc := 0) (j := 1) (i := 1) dJ2_indexOf_0 rfl rfl ?_
  refine go_callSI (pc := 1) (ct_J2_canEncode p1) lk_J2_88 rfl ⟨by decide, by decide⟩ (Nat.le_of_ble_eq_true rfl) dJ2_indexOf_1 rfl fun v1 u1 => ?_
  refine go_if_ne (pc := 4) (tgt := 9) dJ2_indexOf_4 (by decide) (fun h1 => ?_) (fun h1 => ?_)
  · refine go_iconst (pc := 7) (v := (-1)) dJ2_indexOf_7 (by decide) ?_
    exact go_ireturn (pc := 8) rfl dJ2_indexOf_8
  · refine go_iload_n (pc := 9) (j := 2) (i := 2) dJ2_indexOf_9 rfl rfl ?_
    refine go_iconst (pc := 10) (v := 0) dJ2_indexOf_10 (by decide) ?_
    refine go_mmaxI (pc := 11) dJ2_indexOf_11 q789 q584 q102 q585 (by decide) (Nat.le_of_ble_eq_true rfl) ?_
    refine go_istore_n (pc := 14) (j := 2) (i := 2) (A' := [(0, .ref p0), (1, .int p1), (2, .int (if p2 < 0 then 0 else p2)), (3, .int p3)]) rfl (by decide) rfl rfl rfl dJ2_indexOf_14 ?_
    refine go_iload_n (pc := 15) (j := 3) (i := 3) dJ2_indexOf_15 rfl rfl ?_
    refine go_aload_n (pc := 16) (j := 0) (i := 0) dJ2_indexOf_16 rfl rfl ?_
    refine go_alenS (pc := 17) dJ2_indexOf_17 t_p0 ?_
    refine go_mminI (pc := 18) dJ2_indexOf_18 q790 q569 q102 q570 (by decide) (Nat.le_of_ble_eq_true rfl) ?_
    refine go_istore_n (pc := 21) (j := 3) (i := 3) (A' := [(0, .ref p0), (1, .int p1), (2, .int (if p2 < 0 then 0 else p2)), (3, .int (if (Int32.ofNat (mN u1 p0)) < p3 then (Int32.ofNat (mN u1 p0)) else p3))]) rfl (by decide) rfl rfl rfl dJ2_indexOf_21 ?_
    refine go_iload_n (pc := 22) (j := 2) (i := 2) dJ2_indexOf_22 rfl rfl ?_
    refine go_iload_n (pc := 23) (j := 3) (i := 3) dJ2_indexOf_23 rfl rfl ?_
    refine go_icmp_lt (pc := 24) (tgt := 29) dJ2_indexOf_24 (by decide) (fun h2 => ?_) (fun h2 => ?_)
    · refine go_aload_n (pc := 29) (j := 0) (i := 0) dJ2_indexOf_29 rfl rfl ?_
      refine go_iload_n (pc := 30) (j := 1) (i := 1) dJ2_indexOf_30 rfl rfl ?_
      refine go_iload_n (pc := 31) (j := 2) (i := 2) dJ2_indexOf_31 rfl rfl ?_
      refine go_iload_n (pc := 32) (j := 3) (i := 3) dJ2_indexOf_32 rfl rfl ?_
      refine go_callSI (pc := 33) (ct_J2_indexOfChar p0 p1 (if p2 < 0 then 0 else p2) (if (Int32.ofNat (mN u1 p0)) < p3 then (Int32.ofNat (mN u1 p0)) else p3) t_p0) lk_J2_95 rfl ⟨by decide, by decide⟩ (Nat.le_of_ble_eq_true rfl) dJ2_indexOf_33 rfl fun v2 u2 => ?_
      exact go_ireturn (pc := 36) rfl dJ2_indexOf_36
    · refine go_iconst (pc := 27) (v := (-1)) dJ2_indexOf_27 (by decide) ?_
      exact go_ireturn (pc := 28) rfl dJ2_indexOf_28

def f_J1_indexOf_2 (self : Nat) (p0 : Int32) (p1 : Int32) (u : zM) : Option (Int32 × zM) := bd (f_J1_isLatin1 self u) fun v1 u1 => if v1 = 0 then (none) else (lt (nm 28 (nK self)) fun r1 => bd (f_J1_length self u1) fun v2 u2 => bd (f_J2_indexOf r1 p0 p1 v2 u2) fun v3 u3 => some (v3, u3))
set_option maxHeartbeats 4000000 in
theorem ct_J1_indexOf_2 (self : Nat) (p0 : Int32) (p1 : Int32) (t_self : kd self = 27) : zMet yJ1_indexOf_2 cJ1_indexOf_2 3 (some .int) 3 63 rvI (obT) [.ref self, .int p0, .int p1] (f_J1_indexOf_2 self p0 p1) := by
  refine zMet_of (A := [(0, .ref self), (1, .int p0), (2, .int p1)]) (B := []) (ini := false) RJ1 rfl (by decide +kernel) (fun h => by cases h) (by simp [lg_sl, Value.category]) (by simp [lv_args, Value.category]) rfl (by simp [lv_args, Value.category]) fun u => ?_
  unfold f_J1_indexOf_2
  refine go_aload_n (pc := 0) (j := 0) (i := 0) dJ1_indexOf_2_0 rfl rfl ?_
  refine go_callVT (pc := 1) (ct_J1_isLatin1 self t_self) lk_J1_492 rfl rfl t_self ⟨by decide, by decide⟩ (Nat.le_of_ble_eq_true rfl) dJ1_indexOf_2_1 rfl fun v1 u1 => ?_
  refine go_if_eq (pc := 4) (tgt := 23) dJ1_indexOf_2_4 (by decide) (fun h1 => ?_) (fun h1 => ?_)
  · exact go_none
  · refine go_aload_n (pc := 7) (j := 0) (i := 0) dJ1_indexOf_2_7 rfl rfl ?_
    refine go_strval (pc := 8) (ref := "") t_self q1963 dJ1_indexOf_2_8 fun r1 t_r1 => ?_
    refine go_iload_n (pc := 11) (j := 1) (i := 1) dJ1_indexOf_2_11 rfl rfl ?_
    refine go_iload_n (pc := 12) (j := 2) (i := 2) dJ1_indexOf_2_12 rfl rfl ?_
    refine go_aload_n (pc := 13) (j := 0) (i := 0) dJ1_indexOf_2_13 rfl rfl ?_
    refine go_callVT (pc := 14) (ct_J1_length self t_self) lk_J1_505 rfl rfl t_self ⟨by decide, by decide⟩ (Nat.le_of_ble_eq_true rfl) dJ1_indexOf_2_14 rfl fun v2 u2 => ?_
    refine go_callSI (pc := 17) (ct_J2_indexOf r1 p0 p1 v2 t_r1) lk_J1_637 rfl ⟨by decide, by decide⟩ (Nat.le_of_ble_eq_true rfl) dJ1_indexOf_2_17 rfl fun v3 u3 => ?_
    refine go_goto (pc := 20) (tgt := 36) dJ1_indexOf_2_20 (by decide) ?_
    exact go_ireturn (pc := 36) rfl dJ1_indexOf_2_36

def f_J1_indexOf (self : Nat) (p0 : Int32) (u : zM) : Option (Int32 × zM) := bd (f_J1_indexOf_2 self p0 0 u) fun v1 u1 => some (v1, u1)
set_option maxHeartbeats 4000000 in
theorem ct_J1_indexOf (self : Nat) (p0 : Int32) (t_self : kd self = 27) : zMet yJ1_indexOf cJ1_indexOf 2 (some .int) 4 85 rvI (obT) [.ref self, .int p0] (f_J1_indexOf self p0) := by
  refine zMet_of (A := [(0, .ref self), (1, .int p0)]) (B := []) (ini := false) RJ1 rfl (by decide +kernel) (fun h => by cases h) (by simp [lg_sl, Value.category]) (by simp [lv_args, Value.category]) rfl (by simp [lv_args, Value.category]) fun u => ?_
  unfold f_J1_indexOf
  refine go_aload_n (pc := 0) (j := 0) (i := 0) dJ1_indexOf_0 rfl rfl ?_
  refine go_iload_n (pc := 1) (j := 1) (i := 1) dJ1_indexOf_1 rfl rfl ?_
  refine go_iconst (pc := 2) (v := 0) dJ1_indexOf_2 (by decide) ?_
  refine go_callVT (pc := 3) (ct_J1_indexOf_2 self p0 0 t_self) lk_J1_633 rfl rfl t_self ⟨by decide, by decide⟩ (Nat.le_of_ble_eq_true rfl) dJ1_indexOf_3 rfl fun v1 u1 => ?_
  exact go_ireturn (pc := 6) rfl dJ1_indexOf_6

def f_X1_errs (self : Nat) (u : zM) : Option ((Unit ⊕ Nat) × zM) := lt (nx u 11) fun n1 => lt (mkc u 11 0 7) fun u1 => bd (f_X11_init n1 (mI u1 self 5) u1) fun v1 u2 => some (.inr n1, u2)
set_option maxHeartbeats 4000000 in
theorem ct_X1_errs (self : Nat) (t_self : kd self = 1) : zMetT yX1_errs cX1_errs 1 (none) 5 161 rvV (obT) [.ref self] (f_X1_errs self) := by
  refine zMetT_of (A := [(0, .ref self)]) (B := []) (ini := false) RX1 rfl (by decide +kernel) (fun h => by cases h) (by simp [lg_sl, Value.category]) (by simp [lv_args, Value.category]) rfl (by simp [lv_args, Value.category]) fun u => ?_
  unfold f_X1_errs
  refine go_new (pc := 0) (ci := 11) (σ := 11) (N := 7) na_X1_50 (by decide) (by decide) rfl dX1_errs_0 fun n1 u1 t_n1 => ?_
  refine go_dupA (pc := 3) dX1_errs_3 ?_
  refine go_aload_n (pc := 4) (j := 0) (i := 0) dX1_errs_4 rfl rfl ?_
  refine go_getI (pc := 5) (n := self) (ci := 1) (k := 5) fa_X1_29_1 t_self rfl dX1_errs_5 ?_
  refine go_callI (pc := 8) (ct_X11_init n1 (mI u1 self 5) t_n1) lk_X1_52 rfl ⟨by decide, by decide⟩ (Nat.le_of_ble_eq_true rfl) dX1_errs_8 rfl fun v1 u2 => ?_
  exact go_athrow (pc := 11) t_n1 dX1_errs_11

def f_X1_next_L0 (x0 : Nat) (k52 : zM → Option ((Unit ⊕ Nat) × zM)) : Nat → zM → Option ((Unit ⊕ Nat) × zM)
  | 0, _ => none
  | n + 1, u => if (mI u x0 3) ≤ (mI u x0 4) then (k52 u) else (lt (mR u x0 2) fun r1 => oB r1 fun n1 => ix (mI u x0 4) (mN u n1) (lt (fun (u1 : zM) => lt (sI u1 x0 4 ((mI u1 x0 4) + 1)) fun u2 => f_X1_next_L0 x0 k52 n u2) fun j1 => if (mI u n1 (xN (mI u x0 4))) = 32 then (j1 u) else (lt (mR u x0 2) fun r2 => oB r2 fun n2 => ix (mI u x0 4) (mN u n2) (if (mI u n2 (xN (mI u x0 4))) = 10 then (j1 u) else (k52 u)))))
section
variable {c0 s0 : Nat} {tbv : List ExceptionTableEntry}
set_option maxHeartbeats 4000000 in
theorem g_X1_next_L0 (x0 : Nat) (k52 : zM → Option ((Unit ⊕ Nat) × zM)) (t_x0 : kd x0 = 1) (hk52 : ∀ (u : zM), Go RX1 cX1_next 2 (none) false 6 181 [] (obX (obT)) (zQT rvV) c0 s0 52 [(0, .ref x0)] [] [] u (k52 u)) : ∀ (n : Nat) (u : zM), Go RX1 cX1_next 2 (none) false 6 181 [] (obX (obT)) (zQT rvV) c0 s0 0 [(0, .ref x0)] [] [] u (f_X1_next_L0 x0 k52 n u) := by
  intro n
  induction n with
  | zero => intros; exact go_none
  | succ n ih =>
    intro u
    unfold f_X1_next_L0
    refine go_aload_n (pc := 0) (j := 0) (i := 0) dX1_next_0 rfl rfl ?_
    refine go_getI (pc := 1) (n := x0) (ci := 1) (k := 4) fa_X1_19_1 t_x0 rfl dX1_next_1 ?_
    refine go_aload_n (pc := 4) (j := 0) (i := 0) dX1_next_4 rfl rfl ?_
    refine go_getI (pc := 5) (n := x0) (ci := 1) (k := 3) fa_X1_23_1 t_x0 rfl dX1_next_5 ?_
    refine go_icmp_ge (pc := 8) (tgt := 52) dX1_next_8 (by decide) (fun h1 => ?_) (fun h1 => ?_)
    · exact go_weak (A' := [(0, .ref x0)]) (B' := []) ⟨rfl, trivial⟩ rfl (fun q h => by cases h) (hk52 u)
    · refine go_aload_n (pc := 11) (j := 0) (i := 0) dX1_next_11 rfl rfl ?_
      refine go_getR (pc := 12) (n := x0) (ci := 1) (k := 2) (t := 14) fa_X1_26_1 t_x0 rfl dX1_next_12 fun r1 t_r1 => ?_
      refine go_aload_n (pc := 15) (j := 0) (i := 0) dX1_next_15 rfl rfl ?_
      refine go_getI (pc := 16) (n := x0) (ci := 1) (k := 4) fa_X1_19_1 t_x0 rfl dX1_next_16 ?_
      refine go_oB fun n1 e_n1 => ?_
      have t_n1 := t_r1 n1 e_n1
      subst e_n1
      refine go_bald (pc := 19) t_n1 dX1_next_19 ?_
      refine go_bipush (pc := 20) (v := 32) dX1_next_20 (by decide) ?_
      refine go_join0 (pcx := 39) ([(0, .ref x0)]) ([]) ([]) (True) (fun u1 _ => ?_) (fun j1 hj1 => ?_)
      · refine go_aload_n (pc := 39) (j := 0) (i := 0) dX1_next_39 rfl rfl ?_
        refine go_dupA (pc := 40) dX1_next_40 ?_
        refine go_getI (pc := 41) (n := x0) (ci := 1) (k := 4) fa_X1_19_1 t_x0 rfl dX1_next_41 ?_
        refine go_iconst (pc := 44) (v := 1) dX1_next_44 (by decide) ?_
        refine go_iadd (pc := 45) dX1_next_45 ?_
        refine go_putI (pc := 46) (n := x0) (ci := 1) (k := 4) (v := ((mI u1 x0 4) + 1)) pa_X1_19_1 (fun h => by cases h) t_x0 rfl zKeep_int dX1_next_46 fun u2 => ?_
        refine go_goto (pc := 49) (tgt := 0) dX1_next_49 (by decide) ?_
        exact go_weak (A' := [(0, .ref x0)]) (B' := []) ⟨rfl, trivial⟩ rfl (fun q h => by cases h) (ih u2)
      · refine go_icmp_eq (pc := 22) (tgt := 39) dX1_next_22 (by decide) (fun h2 => ?_) (fun h2 => ?_)
        · exact go_weak (A' := [(0, .ref x0)]) (B' := []) ⟨rfl, trivial⟩ rfl (fun q h => by cases h) (hj1 u trivial)
        · refine go_aload_n (pc := 25) (j := 0) (i := 0) dX1_next_25 rfl rfl ?_
          refine go_getR (pc := 26) (n := x0) (ci := 1) (k := 2) (t := 14) fa_X1_26_1 t_x0 rfl dX1_next_26 fun r2 t_r2 => ?_
          refine go_aload_n (pc := 29) (j := 0) (i := 0) dX1_next_29 rfl rfl ?_
          refine go_getI (pc := 30) (n := x0) (ci := 1) (k := 4) fa_X1_19_1 t_x0 rfl dX1_next_30 ?_
          refine go_oB fun n2 e_n2 => ?_
          have t_n2 := t_r2 n2 e_n2
          subst e_n2
          refine go_bald (pc := 33) t_n2 dX1_next_33 ?_
          refine go_bipush (pc := 34) (v := 10) dX1_next_34 (by decide) ?_
          refine go_icmp_ne (pc := 36) (tgt := 52) dX1_next_36 (by decide) (fun h3 => ?_) (fun h3 => ?_)
          · exact go_weak (A' := [(0, .ref x0)]) (B' := []) ⟨rfl, trivial⟩ rfl (fun q h => by cases h) (hj1 u trivial)
          · exact go_weak (A' := [(0, .ref x0)]) (B' := []) ⟨rfl, trivial⟩ rfl (fun q h => by cases h) (hk52 u)
end
def f_X1_next_L145 (x0 : Nat) : Nat → zM → Option ((Unit ⊕ Nat) × zM)
  | 0, _ => none
  | n + 1, u => if (mI u x0 3) ≤ (mI u x0 4) then (some (.inl (), u)) else (lt (mR u x0 2) fun r4 => oB r4 fun n4 => ix (mI u x0 4) (mN u n4) (bd (f_X1_isDigit (mI u n4 (xN (mI u x0 4))) u) fun v5 u10 => if v5 = 0 then (some (.inl (), u10)) else (lt (sI u10 x0 4 ((mI u10 x0 4) + 1)) fun u11 => f_X1_next_L145 x0 n u11)))
section
variable {c0 s0 : Nat} {tbv : List ExceptionTableEntry}
set_option maxHeartbeats 4000000 in
theorem g_X1_next_L145 (x0 : Nat) (t_x0 : kd x0 = 1) : ∀ (n : Nat) (u : zM), Go RX1 cX1_next 2 (none) false 6 181 [] (obX (obT)) (zQT rvV) c0 s0 145 [(0, .ref x0)] [] [] u (f_X1_next_L145 x0 n u) := by
  intro n
  induction n with
  | zero => intros; exact go_none
  | succ n ih =>
    intro u
    unfold f_X1_next_L145
    refine go_aload_n (pc := 145) (j := 0) (i := 0) dX1_next_145 rfl rfl ?_
    refine go_getI (pc := 146) (n := x0) (ci := 1) (k := 4) fa_X1_19_1 t_x0 rfl dX1_next_146 ?_
    refine go_aload_n (pc := 149) (j := 0) (i := 0) dX1_next_149 rfl rfl ?_
    refine go_getI (pc := 150) (n := x0) (ci := 1) (k := 3) fa_X1_23_1 t_x0 rfl dX1_next_150 ?_
    refine go_icmp_ge (pc := 153) (tgt := 197) dX1_next_153 (by decide) (fun h8 => ?_) (fun h8 => ?_)
    · exact go_vreturnT (pc := 197) rfl dX1_next_197
    · refine go_aload_n (pc := 156) (j := 0) (i := 0) dX1_next_156 rfl rfl ?_
      refine go_getR (pc := 157) (n := x0) (ci := 1) (k := 2) (t := 14) fa_X1_26_1 t_x0 rfl dX1_next_157 fun r4 t_r4 => ?_
      refine go_aload_n (pc := 160) (j := 0) (i := 0) dX1_next_160 rfl rfl ?_
      refine go_getI (pc := 161) (n := x0) (ci := 1) (k := 4) fa_X1_19_1 t_x0 rfl dX1_next_161 ?_
      refine go_oB fun n4 e_n4 => ?_
      have t_n4 := t_r4 n4 e_n4
      subst e_n4
      refine go_bald (pc := 164) t_n4 dX1_next_164 ?_
      refine go_callSI (pc := 165) (ct_X1_isDigit (mI u n4 (xN (mI u x0 4)))) lk_X1_36 rfl ⟨by decide, by decide⟩ (Nat.le_of_ble_eq_true rfl) dX1_next_165 rfl fun v5 u10 => ?_
      refine go_if_eq (pc := 168) (tgt := 197) dX1_next_168 (by decide) (fun h9 => ?_) (fun h9 => ?_)
      · exact go_vreturnT (pc := 197) rfl dX1_next_197
      · refine go_aload_n (pc := 171) (j := 0) (i := 0) dX1_next_171 rfl rfl ?_
        refine go_dupA (pc := 172) dX1_next_172 ?_
        refine go_getI (pc := 173) (n := x0) (ci := 1) (k := 4) fa_X1_19_1 t_x0 rfl dX1_next_173 ?_
        refine go_iconst (pc := 176) (v := 1) dX1_next_176 (by decide) ?_
        refine go_iadd (pc := 177) dX1_next_177 ?_
        refine go_putI (pc := 178) (n := x0) (ci := 1) (k := 4) (v := ((mI u10 x0 4) + 1)) pa_X1_19_1 (fun h => by cases h) t_x0 rfl zKeep_int dX1_next_178 fun u11 => ?_
        refine go_goto (pc := 181) (tgt := 145) dX1_next_181 (by decide) ?_
        exact go_weak (A' := [(0, .ref x0)]) (B' := []) ⟨rfl, trivial⟩ rfl (fun q h => by cases h) (ih u11)
end
def f_X1_next_L99 (x0 : Nat) : Nat → zM → Option ((Unit ⊕ Nat) × zM)
  | 0, _ => none
  | n + 1, u => if (mI u x0 3) ≤ (mI u x0 4) then (some (.inl (), u)) else (lt (mR u x0 2) fun r5 => oB r5 fun n5 => ix (mI u x0 4) (mN u n5) (bd (f_X1_isLetter (mI u n5 (xN (mI u x0 4))) u) fun v6 u12 => if v6 = 0 then (some (.inl (), u12)) else (lt (sI u12 x0 4 ((mI u12 x0 4) + 1)) fun u13 => f_X1_next_L99 x0 n u13)))
section
variable {c0 s0 : Nat} {tbv : List ExceptionTableEntry}
set_option maxHeartbeats 4000000 in
theorem g_X1_next_L99 (x0 : Nat) (t_x0 : kd x0 = 1) : ∀ (n : Nat) (u : zM), Go RX1 cX1_next 2 (none) false 6 181 [] (obX (obT)) (zQT rvV) c0 s0 99 [(0, .ref x0)] [] [] u (f_X1_next_L99 x0 n u) := by
  intro n
  induction n with
  | zero => intros; exact go_none
  | succ n ih =>
    intro u
    unfold f_X1_next_L99
    refine go_aload_n (pc := 99) (j := 0) (i := 0) dX1_next_99 rfl rfl ?_
    refine go_getI (pc := 100) (n := x0) (ci := 1) (k := 4) fa_X1_19_1 t_x0 rfl dX1_next_100 ?_
    refine go_aload_n (pc := 103) (j := 0) (i := 0) dX1_next_103 rfl rfl ?_
    refine go_getI (pc := 104) (n := x0) (ci := 1) (k := 3) fa_X1_23_1 t_x0 rfl dX1_next_104 ?_
    refine go_icmp_ge (pc := 107) (tgt := 197) dX1_next_107 (by decide) (fun h10 => ?_) (fun h10 => ?_)
    · exact go_vreturnT (pc := 197) rfl dX1_next_197
    · refine go_aload_n (pc := 110) (j := 0) (i := 0) dX1_next_110 rfl rfl ?_
      refine go_getR (pc := 111) (n := x0) (ci := 1) (k := 2) (t := 14) fa_X1_26_1 t_x0 rfl dX1_next_111 fun r5 t_r5 => ?_
      refine go_aload_n (pc := 114) (j := 0) (i := 0) dX1_next_114 rfl rfl ?_
      refine go_getI (pc := 115) (n := x0) (ci := 1) (k := 4) fa_X1_19_1 t_x0 rfl dX1_next_115 ?_
      refine go_oB fun n5 e_n5 => ?_
      have t_n5 := t_r5 n5 e_n5
      subst e_n5
      refine go_bald (pc := 118) t_n5 dX1_next_118 ?_
      refine go_callSI (pc := 119) (ct_X1_isLetter (mI u n5 (xN (mI u x0 4)))) lk_X1_32 rfl ⟨by decide, by decide⟩ (Nat.le_of_ble_eq_true rfl) dX1_next_119 rfl fun v6 u12 => ?_
      refine go_if_eq (pc := 122) (tgt := 197) dX1_next_122 (by decide) (fun h11 => ?_) (fun h11 => ?_)
      · exact go_vreturnT (pc := 197) rfl dX1_next_197
      · refine go_aload_n (pc := 125) (j := 0) (i := 0) dX1_next_125 rfl rfl ?_
        refine go_dupA (pc := 126) dX1_next_126 ?_
        refine go_getI (pc := 127) (n := x0) (ci := 1) (k := 4) fa_X1_19_1 t_x0 rfl dX1_next_127 ?_
        refine go_iconst (pc := 130) (v := 1) dX1_next_130 (by decide) ?_
        refine go_iadd (pc := 131) dX1_next_131 ?_
        refine go_putI (pc := 132) (n := x0) (ci := 1) (k := 4) (v := ((mI u12 x0 4) + 1)) pa_X1_19_1 (fun h => by cases h) t_x0 rfl zKeep_int dX1_next_132 fun u13 => ?_
        refine go_goto (pc := 135) (tgt := 99) dX1_next_135 (by decide) ?_
        exact go_weak (A' := [(0, .ref x0)]) (B' := []) ⟨rfl, trivial⟩ rfl (fun q h => by cases h) (ih u13)
end
def f_X1_next (self : Nat) (u : zM) : Option ((Unit ⊕ Nat) × zM) := f_X1_next_L0 self (fun u3 => lt (sI u3 self 5 (mI u3 self 4)) fun u4 => if (mI u4 self 4) = (mI u4 self 3) then (some (.inl (), u4)) else (lt (mR u4 self 2) fun r3 => oB r3 fun n3 => ix (mI u4 self 4) (mN u4 n3) (lt (sI u4 self 4 ((mI u4 self 4) + 1)) fun u5 => bd (f_X1_isLetter (mI u4 n3 (xN (mI u4 self 4))) u5) fun v1 u6 => if v1 = 0 then (bd (f_X1_isDigit (mI u4 n3 (xN (mI u4 self 4))) u6) fun v2 u7 => if v2 = 0 then (bd (f_J1_indexOf (nm 27 0) (mI u4 n3 (xN (mI u4 self 4))) u7) fun v3 u8 => if 0 ≤ v3 then (some (.inl (), u8)) else (bt (f_X1_errs self u8) fun v4 u9 => some (.inl (), u9))) else (f_X1_next_L145 self zFu u7)) else (f_X1_next_L99 self zFu u6)))) zFu u
set_option maxHeartbeats 4000000 in
theorem ct_X1_next (self : Nat) (t_self : kd self = 1) : zMetT yX1_next cX1_next 2 (none) 6 181 rvV (obT) [.ref self] (f_X1_next self) := by
  refine zMetT_of (A := [(0, .ref self)]) (B := []) (ini := false) RX1 rfl (by decide +kernel) (fun h => by cases h) (by simp [lg_sl, Value.category]) (by simp [lv_args, Value.category]) rfl (by simp [lv_args, Value.category]) fun u => ?_
  unfold f_X1_next
  refine go_weak (A' := [(0, .ref self)]) (B' := []) ⟨rfl, trivial⟩ rfl (fun q h => by cases h) (g_X1_next_L0 self _ t_self ?_ zFu u)
  · intro u3
    refine go_aload_n (pc := 52) (j := 0) (i := 0) dX1_next_52 rfl rfl ?_
    refine go_aload_n (pc := 53) (j := 0) (i := 0) dX1_next_53 rfl rfl ?_
    refine go_getI (pc := 54) (n := self) (ci := 1) (k := 4) fa_X1_19_1 t_self rfl dX1_next_54 ?_
    refine go_putI (pc := 57) (n := self) (ci := 1) (k := 5) (v := (mI u3 self 4)) pa_X1_29_1 (fun h => by cases h) t_self rfl zKeep_int dX1_next_57 fun u4 => ?_
    refine go_aload_n (pc := 60) (j := 0) (i := 0) dX1_next_60 rfl rfl ?_
    refine go_getI (pc := 61) (n := self) (ci := 1) (k := 4) fa_X1_19_1 t_self rfl dX1_next_61 ?_
    refine go_aload_n (pc := 64) (j := 0) (i := 0) dX1_next_64 rfl rfl ?_
    refine go_getI (pc := 65) (n := self) (ci := 1) (k := 3) fa_X1_23_1 t_self rfl dX1_next_65 ?_
    refine go_icmp_ne (pc := 68) (tgt := 72) dX1_next_68 (by decide) (fun h4 => ?_) (fun h4 => ?_)
    · exact go_vreturnT (pc := 71) rfl dX1_next_71
    · refine go_aload_n (pc := 72) (j := 0) (i := 0) dX1_next_72 rfl rfl ?_
      refine go_getR (pc := 73) (n := self) (ci := 1) (k := 2) (t := 14) fa_X1_26_1 t_self rfl dX1_next_73 fun r3 t_r3 => ?_
      refine go_aload_n (pc := 76) (j := 0) (i := 0) dX1_next_76 rfl rfl ?_
      refine go_getI (pc := 77) (n := self) (ci := 1) (k := 4) fa_X1_19_1 t_self rfl dX1_next_77 ?_
      refine go_oB fun n3 e_n3 => ?_
      have t_n3 := t_r3 n3 e_n3
      subst e_n3
      refine go_bald (pc := 80) t_n3 dX1_next_80 ?_
      refine go_istore_n (pc := 81) (j := 1) (i := 1) (A' := [(0, .ref self), (1, .int (mI u4 n3 (xN (mI u4 self 4))))]) rfl (by decide) rfl rfl rfl dX1_next_81 ?_
      refine go_aload_n (pc := 82) (j := 0) (i := 0) dX1_next_82 rfl rfl ?_
      refine go_dupA (pc := 83) dX1_next_83 ?_
      refine go_getI (pc := 84) (n := self) (ci := 1) (k := 4) fa_X1_19_1 t_self rfl dX1_next_84 ?_
      refine go_iconst (pc := 87) (v := 1) dX1_next_87 (by decide) ?_
      refine go_iadd (pc := 88) dX1_next_88 ?_
      refine go_putI (pc := 89) (n := self) (ci := 1) (k := 4) (v := ((mI u4 self 4) + 1)) pa_X1_19_1 (fun h => by cases h) t_self rfl zKeep_int dX1_next_89 fun u5 => ?_
      refine go_iload_n (pc := 92) (j := 1) (i := 1) dX1_next_92 rfl rfl ?_
      refine go_callSI (pc := 93) (ct_X1_isLetter (mI u4 n3 (xN (mI u4 self 4)))) lk_X1_32 rfl ⟨by decide, by decide⟩ (Nat.le_of_ble_eq_true rfl) dX1_next_93 rfl fun v1 u6 => ?_
      refine go_if_eq (pc := 96) (tgt := 138) dX1_next_96 (by decide) (fun h5 => ?_) (fun h5 => ?_)
      · refine go_iload_n (pc := 138) (j := 1) (i := 1) dX1_next_138 rfl rfl ?_
        refine go_callSI (pc := 139) (ct_X1_isDigit (mI u4 n3 (xN (mI u4 self 4)))) lk_X1_36 rfl ⟨by decide, by decide⟩ (Nat.le_of_ble_eq_true rfl) dX1_next_139 rfl fun v2 u7 => ?_
        refine go_if_eq (pc := 142) (tgt := 184) dX1_next_142 (by decide) (fun h6 => ?_) (fun h6 => ?_)
        · refine go_ldcS (pc := 184) (k := 0) dX1_next_184 rfl ?_
          refine go_iload_n (pc := 186) (j := 1) (i := 1) dX1_next_186 rfl rfl ?_
          refine go_callVT (pc := 187) (ct_J1_indexOf (nm 27 0) (mI u4 n3 (xN (mI u4 self 4))) (by decide)) lk_X1_41 rfl rfl (by decide) ⟨by decide, by decide⟩ (Nat.le_of_ble_eq_true rfl) dX1_next_187 rfl fun v3 u8 => ?_
          refine go_if_ge (pc := 190) (tgt := 197) dX1_next_190 (by decide) (fun h7 => ?_) (fun h7 => ?_)
          · exact go_vreturnT (pc := 197) rfl dX1_next_197
          · refine go_aload_n (pc := 193) (j := 0) (i := 0) dX1_next_193 rfl rfl ?_
            refine go_callXV (pc := 194) (ci := 1) (ct_X1_errs self t_self) lk_X1_47 rfl rfl rfl (by decide) t_self ⟨by decide, by decide⟩ (Nat.le_of_ble_eq_true rfl) dX1_next_194 rfl fun v4 u9 => ?_
            exact go_vreturnT (pc := 197) rfl dX1_next_197
        · exact go_weak (A' := [(0, .ref self)]) (B' := []) ⟨rfl, trivial⟩ rfl (fun q h => by cases h) (g_X1_next_L145 self t_self zFu u7)
      · exact go_weak (A' := [(0, .ref self)]) (B' := []) ⟨rfl, trivial⟩ rfl (fun q h => by cases h) (g_X1_next_L99 self t_self zFu u6)

def f_X1_isOver (self : Nat) (u : zM) : Option (Int32 × zM) := if (mI u self 5) = (mI u self 3) then (gb 1 (some (1, u))) else (gb 0 (some (0, u)))
set_option maxHeartbeats 4000000 in
theorem ct_X1_isOver (self : Nat) (t_self : kd self = 1) : zMet yX1_isOver cX1_isOver 1 (some .boolean) 1 0 rvI (obT) [.ref self] (f_X1_isOver self) := by
  refine zMet_of (A := [(0, .ref self)]) (B := []) (ini := false) RX1 rfl (by decide +kernel) (fun h => by cases h) (by simp [lg_sl, Value.category]) (by simp [lv_args, Value.category]) rfl (by simp [lv_args, Value.category]) fun u => ?_
  unfold f_X1_isOver
  refine go_aload_n (pc := 0) (j := 0) (i := 0) dX1_isOver_0 rfl rfl ?_
  refine go_getI (pc := 1) (n := self) (ci := 1) (k := 5) fa_X1_29_1 t_self rfl dX1_isOver_1 ?_
  refine go_aload_n (pc := 4) (j := 0) (i := 0) dX1_isOver_4 rfl rfl ?_
  refine go_getI (pc := 5) (n := self) (ci := 1) (k := 3) fa_X1_23_1 t_self rfl dX1_isOver_5 ?_
  refine go_icmp_ne (pc := 8) (tgt := 15) dX1_isOver_8 (by decide) (fun h1 => ?_) (fun h1 => ?_)
  · refine go_iconst (pc := 11) (v := 1) dX1_isOver_11 (by decide) ?_
    refine go_goto (pc := 12) (tgt := 16) dX1_isOver_12 (by decide) ?_
    exact go_zreturn (pc := 16) rfl dX1_isOver_16
  · refine go_iconst (pc := 15) (v := 0) dX1_isOver_15 (by decide) ?_
    exact go_zreturn (pc := 16) rfl dX1_isOver_16

def f_X1_is (self : Nat) (p0 : Int32) (u : zM) : Option (Int32 × zM) := bd (f_X1_isOver self u) fun v1 u1 => if v1 = 0 then (lt (mR u1 self 2) fun r1 => oB r1 fun n1 => ix (mI u1 self 5) (mN u1 n1) (if (mI u1 n1 (xN (mI u1 self 5))) = p0 then (gb 1 (some (1, u1))) else (gb 0 (some (0, u1))))) else (gb 0 (some (0, u1)))
set_option maxHeartbeats 4000000 in
theorem ct_X1_is (self : Nat) (p0 : Int32) (t_self : kd self = 1) : zMet yX1_is cX1_is 2 (some .boolean) 2 20 rvI (obT) [.ref self, .int p0] (f_X1_is self p0) := by
  refine zMet_of (A := [(0, .ref self), (1, .int p0)]) (B := []) (ini := false) RX1 rfl (by decide +kernel) (fun h => by cases h) (by simp [lg_sl, Value.category]) (by simp [lv_args, Value.category]) rfl (by simp [lv_args, Value.category]) fun u => ?_
  unfold f_X1_is
  refine go_aload_n (pc := 0) (j := 0) (i := 0) dX1_is_0 rfl rfl ?_
  refine go_callVI (pc := 1) (ci := 1) (ct_X1_isOver self t_self) lk_X1_55 rfl rfl rfl (by decide) t_self ⟨by decide, by decide⟩ (Nat.le_of_ble_eq_true rfl) dX1_is_1 rfl fun v1 u1 => ?_
  refine go_if_ne (pc := 4) (tgt := 24) dX1_is_4 (by decide) (fun h1 => ?_) (fun h1 => ?_)
  · refine go_aload_n (pc := 7) (j := 0) (i := 0) dX1_is_7 rfl rfl ?_
    refine go_getR (pc := 8) (n := self) (ci := 1) (k := 2) (t := 14) fa_X1_26_1 t_self rfl dX1_is_8 fun r1 t_r1 => ?_
    refine go_aload_n (pc := 11) (j := 0) (i := 0) dX1_is_11 rfl rfl ?_
    refine go_getI (pc := 12) (n := self) (ci := 1) (k := 5) fa_X1_29_1 t_self rfl dX1_is_12 ?_
    refine go_oB fun n1 e_n1 => ?_
    have t_n1 := t_r1 n1 e_n1
    subst e_n1
    refine go_bald (pc := 15) t_n1 dX1_is_15 ?_
    refine go_iload_n (pc := 16) (j := 1) (i := 1) dX1_is_16 rfl rfl ?_
    refine go_icmp_ne (pc := 17) (tgt := 24) dX1_is_17 (by decide) (fun h2 => ?_) (fun h2 => ?_)
    · refine go_iconst (pc := 20) (v := 1) dX1_is_20 (by decide) ?_
      refine go_goto (pc := 21) (tgt := 25) dX1_is_21 (by decide) ?_
      exact go_zreturn (pc := 25) rfl dX1_is_25
    · refine go_iconst (pc := 24) (v := 0) dX1_is_24 (by decide) ?_
      exact go_zreturn (pc := 25) rfl dX1_is_25
  · refine go_iconst (pc := 24) (v := 0) dX1_is_24 (by decide) ?_
    exact go_zreturn (pc := 25) rfl dX1_is_25

def f_X1_needs (self : Nat) (p0 : Int32) (u : zM) : Option ((Unit ⊕ Nat) × zM) := bd (f_X1_is self p0 u) fun v1 u1 => if v1 = 0 then (bt (f_X1_errs self u1) fun v2 u2 => bt (f_X1_next self u2) fun v3 u3 => some (.inl (), u3)) else (bt (f_X1_next self u1) fun v4 u4 => some (.inl (), u4))
set_option maxHeartbeats 4000000 in
theorem ct_X1_needs (self : Nat) (p0 : Int32) (t_self : kd self = 1) : zMetT yX1_needs cX1_needs 2 (none) 7 202 rvV (obT) [.ref self, .int p0] (f_X1_needs self p0) := by
  refine zMetT_of (A := [(0, .ref self), (1, .int p0)]) (B := []) (ini := false) RX1 rfl (by decide +kernel) (fun h => by cases h) (by simp [lg_sl, Value.category]) (by simp [lv_args, Value.category]) rfl (by simp [lv_args, Value.category]) fun u => ?_
  unfold f_X1_needs
  refine go_aload_n (pc := 0) (j := 0) (i := 0) dX1_needs_0 rfl rfl ?_
  refine go_iload_n (pc := 1) (j := 1) (i := 1) dX1_needs_1 rfl rfl ?_
  refine go_callVI (pc := 2) (ci := 1) (ct_X1_is self p0 t_self) lk_X1_74 rfl rfl rfl (by decide) t_self ⟨by decide, by decide⟩ (Nat.le_of_ble_eq_true rfl) dX1_needs_2 rfl fun v1 u1 => ?_
  refine go_if_ne (pc := 5) (tgt := 12) dX1_needs_5 (by decide) (fun h1 => ?_) (fun h1 => ?_)
  · refine go_aload_n (pc := 8) (j := 0) (i := 0) dX1_needs_8 rfl rfl ?_
    refine go_callXV (pc := 9) (ci := 1) (ct_X1_errs self t_self) lk_X1_47 rfl rfl rfl (by decide) t_self ⟨by decide, by decide⟩ (Nat.le_of_ble_eq_true rfl) dX1_needs_9 rfl fun v2 u2 => ?_
    refine go_aload_n (pc := 12) (j := 0) (i := 0) dX1_needs_12 rfl rfl ?_
    refine go_callXV (pc := 13) (ci := 1) (ct_X1_next self t_self) lk_X1_77 rfl rfl rfl (by decide) t_self ⟨by decide, by decide⟩ (Nat.le_of_ble_eq_true rfl) dX1_needs_13 rfl fun v3 u3 => ?_
    exact go_vreturnT (pc := 16) rfl dX1_needs_16
  · refine go_aload_n (pc := 12) (j := 0) (i := 0) dX1_needs_12 rfl rfl ?_
    refine go_callXV (pc := 13) (ci := 1) (ct_X1_next self t_self) lk_X1_77 rfl rfl rfl (by decide) t_self ⟨by decide, by decide⟩ (Nat.le_of_ble_eq_true rfl) dX1_needs_13 rfl fun v4 u4 => ?_
    exact go_vreturnT (pc := 16) rfl dX1_needs_16

def f_X1_opens (self : Nat) (u : zM) : Option ((Unit ⊕ Nat) × zM) := if (mI u self 6) = 8 then (bt (f_X1_errs self u) fun v1 u1 => lt (sI u1 self 6 ((mI u1 self 6) + 1)) fun u2 => bt (f_X1_next self u2) fun v2 u3 => some (.inl (), u3)) else (lt (sI u self 6 ((mI u self 6) + 1)) fun u4 => bt (f_X1_next self u4) fun v3 u5 => some (.inl (), u5))
set_option maxHeartbeats 4000000 in
theorem ct_X1_opens (self : Nat) (t_self : kd self = 1) : zMetT yX1_opens cX1_opens 1 (none) 7 202 rvV (obT) [.ref self] (f_X1_opens self) := by
  refine zMetT_of (A := [(0, .ref self)]) (B := []) (ini := false) RX1 rfl (by decide +kernel) (fun h => by cases h) (by simp [lg_sl, Value.category]) (by simp [lv_args, Value.category]) rfl (by simp [lv_args, Value.category]) fun u => ?_
  unfold f_X1_opens
  refine go_aload_n (pc := 0) (j := 0) (i := 0) dX1_opens_0 rfl rfl ?_
  refine go_getI (pc := 1) (n := self) (ci := 1) (k := 6) fa_X1_83_1 t_self rfl dX1_opens_1 ?_
  refine go_bipush (pc := 4) (v := 8) dX1_opens_4 (by decide) ?_
  refine go_icmp_ne (pc := 6) (tgt := 13) dX1_opens_6 (by decide) (fun h1 => ?_) (fun h1 => ?_)
  · refine go_aload_n (pc := 9) (j := 0) (i := 0) dX1_opens_9 rfl rfl ?_
    refine go_callXV (pc := 10) (ci := 1) (ct_X1_errs self t_self) lk_X1_47 rfl rfl rfl (by decide) t_self ⟨by decide, by decide⟩ (Nat.le_of_ble_eq_true rfl) dX1_opens_10 rfl fun v1 u1 => ?_
    refine go_aload_n (pc := 13) (j := 0) (i := 0) dX1_opens_13 rfl rfl ?_
    refine go_dupA (pc := 14) dX1_opens_14 ?_
    refine go_getI (pc := 15) (n := self) (ci := 1) (k := 6) fa_X1_83_1 t_self rfl dX1_opens_15 ?_
    refine go_iconst (pc := 18) (v := 1) dX1_opens_18 (by decide) ?_
    refine go_iadd (pc := 19) dX1_opens_19 ?_
    refine go_putI (pc := 20) (n := self) (ci := 1) (k := 6) (v := ((mI u1 self 6) + 1)) pa_X1_83_1 (fun h => by cases h) t_self rfl zKeep_int dX1_opens_20 fun u2 => ?_
    refine go_aload_n (pc := 23) (j := 0) (i := 0) dX1_opens_23 rfl rfl ?_
    refine go_callXV (pc := 24) (ci := 1) (ct_X1_next self t_self) lk_X1_77 rfl rfl rfl (by decide) t_self ⟨by decide, by decide⟩ (Nat.le_of_ble_eq_true rfl) dX1_opens_24 rfl fun v2 u3 => ?_
    exact go_vreturnT (pc := 27) rfl dX1_opens_27
  · refine go_aload_n (pc := 13) (j := 0) (i := 0) dX1_opens_13 rfl rfl ?_
    refine go_dupA (pc := 14) dX1_opens_14 ?_
    refine go_getI (pc := 15) (n := self) (ci := 1) (k := 6) fa_X1_83_1 t_self rfl dX1_opens_15 ?_
    refine go_iconst (pc := 18) (v := 1) dX1_opens_18 (by decide) ?_
    refine go_iadd (pc := 19) dX1_opens_19 ?_
    refine go_putI (pc := 20) (n := self) (ci := 1) (k := 6) (v := ((mI u self 6) + 1)) pa_X1_83_1 (fun h => by cases h) t_self rfl zKeep_int dX1_opens_20 fun u4 => ?_
    refine go_aload_n (pc := 23) (j := 0) (i := 0) dX1_opens_23 rfl rfl ?_
    refine go_callXV (pc := 24) (ci := 1) (ct_X1_next self t_self) lk_X1_77 rfl rfl rfl (by decide) t_self ⟨by decide, by decide⟩ (Nat.le_of_ble_eq_true rfl) dX1_opens_24 rfl fun v3 u5 => ?_
    exact go_vreturnT (pc := 27) rfl dX1_opens_27

def f_X1_word_L24 (x0 : Nat) (x1 : Nat) (x2 : Int32) (x3 : Int32) (x4 : Int32) (k76 : Int32 → zM → Option (Int32 × zM)) : Nat → Int32 → zM → Option (Int32 × zM)
  | 0, _, _ => none
  | n + 1, x5, u => if (x4 - x3) ≤ x5 then (k76 x5 u) else (if (mI u x0 4) ≤ ((mI u x0 5) + x5) then (k76 x5 u) else (lt (mR u x0 2) fun r1 => oB r1 fun n1 => ix ((mI u x0 5) + x5) (mN u n1) (bd (f_J1_charAt x1 (x3 + x5) u) fun v3 u3 => if (mI u n1 (xN ((mI u x0 5) + x5))) = v3 then (f_X1_word_L24 x0 x1 x2 x3 x4 k76 n (x5 + 1) u3) else (k76 x5 u3))))
section
variable {c0 s0 : Nat} {tbv : List ExceptionTableEntry}
set_option maxHeartbeats 4000000 in
theorem g_X1_word_L24 (x0 : Nat) (x1 : Nat) (x2 : Int32) (x3 : Int32) (x4 : Int32) (k76 : Int32 → zM → Option (Int32 × zM)) (t_x0 : kd x0 = 1) (t_x1 : kd x1 = 27) (hk76 : ∀ (x5 : Int32) (u : zM), Go RX1 cX1_word 6 (some .int) false 4 85 [] (obT) (zQ rvI) c0 s0 76 [(0, .ref x0), (1, .ref x1), (2, .int x2), (3, .int x3), (4, .int x4), (5, .int x5)] [] [] u (k76 x5 u)) : ∀ (n : Nat) (x5 : Int32) (u : zM), Go RX1 cX1_word 6 (some .int) false 4 85 [] (obT) (zQ rvI) c0 s0 24 [(0, .ref x0), (1, .ref x1), (2, .int x2), (3, .int x3), (4, .int x4), (5, .int x5)] [] [] u (f_X1_word_L24 x0 x1 x2 x3 x4 k76 n x5 u) := by
  intro n
  induction n with
  | zero => intros; exact go_none
  | succ n ih =>
    intro x5 u
    unfold f_X1_word_L24
    refine go_iload (pc := 24) (i := 5) dX1_word_24 rfl ?_
    refine go_iload (pc := 26) (i := 4) dX1_word_26 rfl ?_
    refine go_iload_n (pc := 28) (j := 3) (i := 3) dX1_word_28 rfl rfl ?_
    refine go_isub (pc := 29) dX1_word_29 ?_
    refine go_icmp_ge (pc := 30) (tgt := 76) dX1_word_30 (by decide) (fun h2 => ?_) (fun h2 => ?_)
    · exact go_weak (A' := [(0, .ref x0), (1, .ref x1), (2, .int x2), (3, .int x3), (4, .int x4), (5, .int x5)]) (B' := []) ⟨rfl, rfl, rfl, rfl, rfl, rfl, trivial⟩ rfl (fun q h => by cases h) (hk76 x5 u)
    · refine go_aload_n (pc := 33) (j := 0) (i := 0) dX1_word_33 rfl rfl ?_
      refine go_getI (pc := 34) (n := x0) (ci := 1) (k := 5) fa_X1_29_1 t_x0 rfl dX1_word_34 ?_
      refine go_iload (pc := 37) (i := 5) dX1_word_37 rfl ?_
      refine go_iadd (pc := 39) dX1_word_39 ?_
      refine go_aload_n (pc := 40) (j := 0) (i := 0) dX1_word_40 rfl rfl ?_
      refine go_getI (pc := 41) (n := x0) (ci := 1) (k := 4) fa_X1_19_1 t_x0 rfl dX1_word_41 ?_
      refine go_icmp_ge (pc := 44) (tgt := 76) dX1_word_44 (by decide) (fun h3 => ?_) (fun h3 => ?_)
      · exact go_weak (A' := [(0, .ref x0), (1, .ref x1), (2, .int x2), (3, .int x3), (4, .int x4), (5, .int x5)]) (B' := []) ⟨rfl, rfl, rfl, rfl, rfl, rfl, trivial⟩ rfl (fun q h => by cases h) (hk76 x5 u)
      · refine go_aload_n (pc := 47) (j := 0) (i := 0) dX1_word_47 rfl rfl ?_
        refine go_getR (pc := 48) (n := x0) (ci := 1) (k := 2) (t := 14) fa_X1_26_1 t_x0 rfl dX1_word_48 fun r1 t_r1 => ?_
        refine go_aload_n (pc := 51) (j := 0) (i := 0) dX1_word_51 rfl rfl ?_
        refine go_getI (pc := 52) (n := x0) (ci := 1) (k := 5) fa_X1_29_1 t_x0 rfl dX1_word_52 ?_
        refine go_iload (pc := 55) (i := 5) dX1_word_55 rfl ?_
        refine go_iadd (pc := 57) dX1_word_57 ?_
        refine go_oB fun n1 e_n1 => ?_
        have t_n1 := t_r1 n1 e_n1
        subst e_n1
        refine go_bald (pc := 58) t_n1 dX1_word_58 ?_
        refine go_aload_n (pc := 59) (j := 1) (i := 1) dX1_word_59 rfl rfl ?_
        refine go_iload_n (pc := 60) (j := 3) (i := 3) dX1_word_60 rfl rfl ?_
        refine go_iload (pc := 61) (i := 5) dX1_word_61 rfl ?_
        refine go_iadd (pc := 63) dX1_word_63 ?_
        refine go_callVT (pc := 64) (ct_J1_charAt x1 (x3 + x5) t_x1) lk_X1_66 rfl rfl t_x1 ⟨by decide, by decide⟩ (Nat.le_of_ble_eq_true rfl) dX1_word_64 rfl fun v3 u3 => ?_
        refine go_icmp_ne (pc := 67) (tgt := 76) dX1_word_67 (by decide) (fun h4 => ?_) (fun h4 => ?_)
        · refine go_iinc (pc := 70) (i := 5) (w := 1) (A' := [(0, .ref x0), (1, .ref x1), (2, .int x2), (3, .int x3), (4, .int x4), (5, .int (x5 + 1))]) rfl (by decide) (by decide) rfl rfl rfl dX1_word_70 ?_
          refine go_goto (pc := 73) (tgt := 24) dX1_word_73 (by decide) ?_
          exact go_weak (A' := [(0, .ref x0), (1, .ref x1), (2, .int x2), (3, .int x3), (4, .int x4), (5, .int (x5 + 1))]) (B' := []) ⟨rfl, rfl, rfl, rfl, rfl, rfl, trivial⟩ rfl (fun q h => by cases h) (ih (x5 + 1) u3)
        · exact go_weak (A' := [(0, .ref x0), (1, .ref x1), (2, .int x2), (3, .int x3), (4, .int x4), (5, .int x5)]) (B' := []) ⟨rfl, rfl, rfl, rfl, rfl, rfl, trivial⟩ rfl (fun q h => by cases h) (hk76 x5 u3)
end
def f_X1_word_L4 (x0 : Nat) (x1 : Nat) : Nat → Int32 → Int32 → zM → Option (Int32 × zM)
  | 0, _, _, _ => none
  | n + 1, x2, x3, u => bd (f_J1_length x1 u) fun v1 u1 => if v1 ≤ x3 then (some ((-1), u1)) else (bd (f_J1_indexOf_2 x1 32 x3 u1) fun v2 u2 => f_X1_word_L24 x0 x1 x2 x3 v2 (fun z1 u4 => lt (fun (u5 : zM) => f_X1_word_L4 x0 x1 n (x2 + 1) (v2 + 1) u5) fun j1 => if z1 = (v2 - x3) then (if z1 = ((mI u4 x0 4) - (mI u4 x0 5)) then (some (x2, u4)) else (j1 u4)) else (j1 u4)) zFu 0 u2)
section
variable {c0 s0 : Nat} {tbv : List ExceptionTableEntry}
set_option maxHeartbeats 4000000 in
theorem g_X1_word_L4 (x0 : Nat) (x1 : Nat) (t_x0 : kd x0 = 1) (t_x1 : kd x1 = 27) : ∀ (n : Nat) (x2 : Int32) (x3 : Int32) (u : zM), Go RX1 cX1_word 6 (some .int) false 4 85 [] (obT) (zQ rvI) c0 s0 4 [(0, .ref x0), (1, .ref x1), (2, .int x2), (3, .int x3)] [] [] u (f_X1_word_L4 x0 x1 n x2 x3 u) := by
  intro n
  induction n with
  | zero => intros; exact go_none
  | succ n ih =>
    intro x2 x3 u
    unfold f_X1_word_L4
    refine go_iload_n (pc := 4) (j := 3) (i := 3) dX1_word_4 rfl rfl ?_
    refine go_aload_n (pc := 5) (j := 1) (i := 1) dX1_word_5 rfl rfl ?_
    refine go_callVT (pc := 6) (ct_J1_length x1 t_x1) lk_X1_59 rfl rfl t_x1 ⟨by decide, by decide⟩ (Nat.le_of_ble_eq_true rfl) dX1_word_6 rfl fun v1 u1 => ?_
    refine go_icmp_ge (pc := 9) (tgt := 112) dX1_word_9 (by decide) (fun h1 => ?_) (fun h1 => ?_)
    · refine go_iconst (pc := 112) (v := (-1)) dX1_word_112 (by decide) ?_
      exact go_ireturn (pc := 113) rfl dX1_word_113
    · refine go_aload_n (pc := 12) (j := 1) (i := 1) dX1_word_12 rfl rfl ?_
      refine go_bipush (pc := 13) (v := 32) dX1_word_13 (by decide) ?_
      refine go_iload_n (pc := 15) (j := 3) (i := 3) dX1_word_15 rfl rfl ?_
      refine go_callVT (pc := 16) (ct_J1_indexOf_2 x1 32 x3 t_x1) lk_X1_63 rfl rfl t_x1 ⟨by decide, by decide⟩ (Nat.le_of_ble_eq_true rfl) dX1_word_16 rfl fun v2 u2 => ?_
      refine go_istore (pc := 19) (i := 4) (A' := [(0, .ref x0), (1, .ref x1), (2, .int x2), (3, .int x3), (4, .int v2)]) (by decide) rfl rfl rfl dX1_word_19 ?_
      refine go_iconst (pc := 21) (v := 0) dX1_word_21 (by decide) ?_
      refine go_istore (pc := 22) (i := 5) (A' := [(0, .ref x0), (1, .ref x1), (2, .int x2), (3, .int x3), (4, .int v2), (5, .int 0)]) (by decide) rfl rfl rfl dX1_word_22 ?_
      refine go_weak (A' := [(0, .ref x0), (1, .ref x1), (2, .int x2), (3, .int x3), (4, .int v2), (5, .int 0)]) (B' := []) ⟨rfl, rfl, rfl, rfl, rfl, rfl, trivial⟩ rfl (fun q h => by cases h) (g_X1_word_L24 x0 x1 x2 x3 v2 _ t_x0 t_x1 ?_ zFu 0 u2)
      · intro z1 u4
        refine go_iload (pc := 76) (i := 5) dX1_word_76 rfl ?_
        refine go_iload (pc := 78) (i := 4) dX1_word_78 rfl ?_
        refine go_iload_n (pc := 80) (j := 3) (i := 3) dX1_word_80 rfl rfl ?_
        refine go_isub (pc := 81) dX1_word_81 ?_
        refine go_join0 (pcx := 101) ([(0, .ref x0), (1, .ref x1), (2, .int x2), (4, .int v2)]) ([]) ([]) (True) (fun u5 _ => ?_) (fun j1 hj1 => ?_)
        · refine go_iload (pc := 101) (i := 4) dX1_word_101 rfl ?_
          refine go_iconst (pc := 103) (v := 1) dX1_word_103 (by decide) ?_
          refine go_iadd (pc := 104) dX1_word_104 ?_
          refine go_istore_n (pc := 105) (j := 3) (i := 3) (A' := [(0, .ref x0), (1, .ref x1), (2, .int x2), (4, .int v2), (3, .int (v2 + 1))]) rfl (by decide) rfl rfl rfl dX1_word_105 ?_
          refine go_iinc (pc := 106) (i := 2) (w := 1) (A' := [(0, .ref x0), (1, .ref x1), (2, .int (x2 + 1)), (4, .int v2), (3, .int (v2 + 1))]) rfl (by decide) (by decide) rfl rfl rfl dX1_word_106 ?_
          refine go_goto (pc := 109) (tgt := 4) dX1_word_109 (by decide) ?_
          exact go_weak (A' := [(0, .ref x0), (1, .ref x1), (2, .int (x2 + 1)), (3, .int (v2 + 1))]) (B' := []) ⟨rfl, rfl, rfl, rfl, trivial⟩ rfl (fun q h => by cases h) (ih (x2 + 1) (v2 + 1) u5)
        · refine go_icmp_ne (pc := 82) (tgt := 101) dX1_word_82 (by decide) (fun h5 => ?_) (fun h5 => ?_)
          · refine go_iload (pc := 85) (i := 5) dX1_word_85 rfl ?_
            refine go_aload_n (pc := 87) (j := 0) (i := 0) dX1_word_87 rfl rfl ?_
            refine go_getI (pc := 88) (n := x0) (ci := 1) (k := 4) fa_X1_19_1 t_x0 rfl dX1_word_88 ?_
            refine go_aload_n (pc := 91) (j := 0) (i := 0) dX1_word_91 rfl rfl ?_
            refine go_getI (pc := 92) (n := x0) (ci := 1) (k := 5) fa_X1_29_1 t_x0 rfl dX1_word_92 ?_
            refine go_isub (pc := 95) dX1_word_95 ?_
            refine go_icmp_ne (pc := 96) (tgt := 101) dX1_word_96 (by decide) (fun h6 => ?_) (fun h6 => ?_)
            · refine go_iload_n (pc := 99) (j := 2) (i := 2) dX1_word_99 rfl rfl ?_
              exact go_ireturn (pc := 100) rfl dX1_word_100
            · exact go_weak (A' := [(0, .ref x0), (1, .ref x1), (2, .int x2), (4, .int v2)]) (B' := []) ⟨rfl, rfl, rfl, rfl, trivial⟩ rfl (fun q h => by cases h) (hj1 u4 trivial)
          · exact go_weak (A' := [(0, .ref x0), (1, .ref x1), (2, .int x2), (4, .int v2)]) (B' := []) ⟨rfl, rfl, rfl, rfl, trivial⟩ rfl (fun q h => by cases h) (hj1 u4 trivial)
end
def f_X1_word (self : Nat) (p0 : Nat) (u : zM) : Option (Int32 × zM) := f_X1_word_L4 self p0 zFu 0 0 u
set_option maxHeartbeats 4000000 in
theorem ct_X1_word (self : Nat) (p0 : Nat) (t_self : kd self = 1) (t_p0 : kd p0 = 27) : zMet yX1_word cX1_word 6 (some .int) 4 85 rvI (obT) [.ref self, .ref p0] (f_X1_word self p0) := by
  refine zMet_of (A := [(0, .ref self), (1, .ref p0)]) (B := []) (ini := false) RX1 rfl (by decide +kernel) (fun h => by cases h) (by simp [lg_sl, Value.category]) (by simp [lv_args, Value.category]) rfl (by simp [lv_args, Value.category]) fun u => ?_
  unfold f_X1_word
  refine go_iconst (pc := 0) (v := 0) dX1_word_0 (by decide) ?_
  refine go_istore_n (pc := 1) (j := 2) (i := 2) (A' := [(0, .ref self), (1, .ref p0), (2, .int 0)]) rfl (by decide) rfl rfl rfl dX1_word_1 ?_
  refine go_iconst (pc := 2) (v := 0) dX1_word_2 (by decide) ?_
  refine go_istore_n (pc := 3) (j := 3) (i := 3) (A' := [(0, .ref self), (1, .ref p0), (2, .int 0), (3, .int 0)]) rfl (by decide) rfl rfl rfl dX1_word_3 ?_
  exact go_weak (A' := [(0, .ref self), (1, .ref p0), (2, .int 0), (3, .int 0)]) (B' := []) ⟨rfl, rfl, rfl, rfl, trivial⟩ rfl (fun q h => by cases h) (g_X1_word_L4 self p0 t_self t_p0 zFu 0 0 u)

def f_X1_isWord (self : Nat) (p0 : Nat) (u : zM) : Option (Int32 × zM) := bd (f_X1_isOver self u) fun v1 u1 => if v1 = 0 then (bd (f_X1_word self p0 u1) fun v2 u2 => if v2 = 0 then (gb 1 (some (1, u2))) else (gb 0 (some (0, u2)))) else (gb 0 (some (0, u1)))
set_option maxHeartbeats 4000000 in
theorem ct_X1_isWord (self : Nat) (p0 : Nat) (t_self : kd self = 1) (t_p0 : kd p0 = 27) : zMet yX1_isWord cX1_isWord 2 (some .boolean) 5 110 rvI (obT) [.ref self, .ref p0] (f_X1_isWord self p0) := by
  refine zMet_of (A := [(0, .ref self), (1, .ref p0)]) (B := []) (ini := false) RX1 rfl (by decide +kernel) (fun h => by cases h) (by simp [lg_sl, Value.category]) (by simp [lv_args, Value.category]) rfl (by simp [lv_args, Value.category]) fun u => ?_
  unfold f_X1_isWord
  refine go_aload_n (pc := 0) (j := 0) (i := 0) dX1_isWord_0 rfl rfl ?_
  refine go_callVI (pc := 1) (ci := 1) (ct_X1_isOver self t_self) lk_X1_55 rfl rfl rfl (by decide) t_self ⟨by decide, by decide⟩ (Nat.le_of_ble_eq_true rfl) dX1_isWord_1 rfl fun v1 u1 => ?_
  refine go_if_ne (pc := 4) (tgt := 19) dX1_isWord_4 (by decide) (fun h1 => ?_) (fun h1 => ?_)
  · refine go_aload_n (pc := 7) (j := 0) (i := 0) dX1_isWord_7 rfl rfl ?_
    refine go_aload_n (pc := 8) (j := 1) (i := 1) dX1_isWord_8 rfl rfl ?_
    refine go_callVI (pc := 9) (ci := 1) (ct_X1_word self p0 t_self t_p0) lk_X1_70 rfl rfl rfl (by decide) t_self ⟨by decide, by decide⟩ (Nat.le_of_ble_eq_true rfl) dX1_isWord_9 rfl fun v2 u2 => ?_
    refine go_if_ne (pc := 12) (tgt := 19) dX1_isWord_12 (by decide) (fun h2 => ?_) (fun h2 => ?_)
    · refine go_iconst (pc := 15) (v := 1) dX1_isWord_15 (by decide) ?_
      refine go_goto (pc := 16) (tgt := 20) dX1_isWord_16 (by decide) ?_
      exact go_zreturn (pc := 20) rfl dX1_isWord_20
    · refine go_iconst (pc := 19) (v := 0) dX1_isWord_19 (by decide) ?_
      exact go_zreturn (pc := 20) rfl dX1_isWord_20
  · refine go_iconst (pc := 19) (v := 0) dX1_isWord_19 (by decide) ?_
    exact go_zreturn (pc := 20) rfl dX1_isWord_20

def f_X1_notes (self : Nat) (p0 : Int32) (p1 : Int32) (u : zM) : Option (Unit × zM) := lt (mR u self 0) fun r1 => oB r1 fun n1 => ix (mI u self 7) (mN u n1) (lt (sI u n1 (xN (mI u self 7)) (Int32.toInt8 ((Int32.toInt8 p0).toInt32)).toInt32) fun u1 => lt (mR u1 self 1) fun r2 => oB r2 fun n2 => ix (mI u1 self 7) (mN u1 n2) (lt (sI u1 n2 (xN (mI u1 self 7)) p1) fun u2 => lt (sI u2 self 7 ((mI u2 self 7) + 1)) fun u3 => some ((), u3)))
set_option maxHeartbeats 4000000 in
theorem ct_X1_notes (self : Nat) (p0 : Int32) (p1 : Int32) (t_self : kd self = 1) : zMet yX1_notes cX1_notes 3 (none) 1 0 rvV (obT) [.ref self, .int p0, .int p1] (f_X1_notes self p0 p1) := by
  refine zMet_of (A := [(0, .ref self), (1, .int p0), (2, .int p1)]) (B := []) (ini := false) RX1 rfl (by decide +kernel) (fun h => by cases h) (by simp [lg_sl, Value.category]) (by simp [lv_args, Value.category]) rfl (by simp [lv_args, Value.category]) fun u => ?_
  unfold f_X1_notes
  refine go_aload_n (pc := 0) (j := 0) (i := 0) dX1_notes_0 rfl rfl ?_
  refine go_getR (pc := 1) (n := self) (ci := 1) (k := 0) (t := 14) fa_X1_9_1 t_self rfl dX1_notes_1 fun r1 t_r1 => ?_
  refine go_aload_n (pc := 4) (j := 0) (i := 0) dX1_notes_4 rfl rfl ?_
  refine go_getI (pc := 5) (n := self) (ci := 1) (k := 7) fa_X1_80_1 t_self rfl dX1_notes_5 ?_
  refine go_iload_n (pc := 8) (j := 1) (i := 1) dX1_notes_8 rfl rfl ?_
  refine go_i2b (pc := 9) dX1_notes_9 ?_
  refine go_oB fun n1 e_n1 => ?_
  have t_n1 := t_r1 n1 e_n1
  subst e_n1
  refine go_bast (pc := 10) t_n1 dX1_notes_10 fun u1 => ?_
  refine go_aload_n (pc := 11) (j := 0) (i := 0) dX1_notes_11 rfl rfl ?_
  refine go_getR (pc := 12) (n := self) (ci := 1) (k := 1) (t := 13) fa_X1_15_1 t_self rfl dX1_notes_12 fun r2 t_r2 => ?_
  refine go_aload_n (pc := 15) (j := 0) (i := 0) dX1_notes_15 rfl rfl ?_
  refine go_getI (pc := 16) (n := self) (ci := 1) (k := 7) fa_X1_80_1 t_self rfl dX1_notes_16 ?_
  refine go_iload_n (pc := 19) (j := 2) (i := 2) dX1_notes_19 rfl rfl ?_
  refine go_oB fun n2 e_n2 => ?_
  have t_n2 := t_r2 n2 e_n2
  subst e_n2
  refine go_iast (pc := 20) t_n2 dX1_notes_20 fun u2 => ?_
  refine go_aload_n (pc := 21) (j := 0) (i := 0) dX1_notes_21 rfl rfl ?_
  refine go_dupA (pc := 22) dX1_notes_22 ?_
  refine go_getI (pc := 23) (n := self) (ci := 1) (k := 7) fa_X1_80_1 t_self rfl dX1_notes_23 ?_
  refine go_iconst (pc := 26) (v := 1) dX1_notes_26 (by decide) ?_
  refine go_iadd (pc := 27) dX1_notes_27 ?_
  refine go_putI (pc := 28) (n := self) (ci := 1) (k := 7) (v := ((mI u2 self 7) + 1)) pa_X1_80_1 (fun h => by cases h) t_self rfl zKeep_int dX1_notes_28 fun u3 => ?_
  exact go_vreturn (pc := 31) rfl dX1_notes_31

def f_X1_factor_L63 (rc : Nat → zM → Option ((Unit ⊕ Nat) × zM)) (x0 : Nat) (k97 : Int32 → zM → Option ((Unit ⊕ Nat) × zM)) : Nat → Int32 → Int32 → zM → Option ((Unit ⊕ Nat) × zM)
  | 0, _, _, _ => none
  | n + 1, x1, x2, u => if (mI u x0 4) ≤ x2 then (k97 x1 u) else (lt (mR u x0 2) fun r2 => oB r2 fun n2 => ix x2 (mN u n2) (f_X1_factor_L63 rc x0 k97 n (if (((10 * x1) + (mI u n2 (xN x2))) - 48) < 1000000 then (((10 * x1) + (mI u n2 (xN x2))) - 48) else 1000000) (x2 + 1) u))
section
variable {c0 s0 : Nat} {tbv : List ExceptionTableEntry}
set_option maxHeartbeats 4000000 in
theorem g_X1_factor_L63 (rc : Nat → zM → Option ((Unit ⊕ Nat) × zM)) (x0 : Nat) (k97 : Int32 → zM → Option ((Unit ⊕ Nat) × zM)) {FRm LOm Frc Lrc : Nat} (hrc : ∀ (self : Nat), kd self = 1 → zMetT yX1_sum cX1_sum 2 (none) Frc Lrc rvV (obT) [.ref self] (rc self)) (hFrc : Frc ≤ FRm) (hLrc : Lrc ≤ LOm) (t_x0 : kd x0 = 1) (hk97 : ∀ (x1 : Int32) (u : zM), Go RX1 cX1_factor 3 (none) false (FRm + 8) (LOm + 223) [] (obX (obT)) (zQT rvV) c0 s0 97 [(0, .ref x0), (1, .int x1)] [] [] u (k97 x1 u)) : ∀ (n : Nat) (x1 : Int32) (x2 : Int32) (u : zM), Go RX1 cX1_factor 3 (none) false (FRm + 8) (LOm + 223) [] (obX (obT)) (zQT rvV) c0 s0 63 [(0, .ref x0), (1, .int x1), (2, .int x2)] [] [] u (f_X1_factor_L63 rc x0 k97 n x1 x2 u) := by
  intro n
  induction n with
  | zero => intros; exact go_none
  | succ n ih =>
    intro x1 x2 u
    unfold f_X1_factor_L63
    refine go_iload_n (pc := 63) (j := 2) (i := 2) dX1_factor_63 rfl rfl ?_
    refine go_aload_n (pc := 64) (j := 0) (i := 0) dX1_factor_64 rfl rfl ?_
    refine go_getI (pc := 65) (n := x0) (ci := 1) (k := 4) fa_X1_19_1 t_x0 rfl dX1_factor_65 ?_
    refine go_icmp_ge (pc := 68) (tgt := 97) dX1_factor_68 (by decide) (fun h6 => ?_) (fun h6 => ?_)
    · exact go_weak (A' := [(0, .ref x0), (1, .int x1)]) (B' := []) ⟨rfl, rfl, trivial⟩ rfl (fun q h => by cases h) (hk97 x1 u)
    · refine go_ldc (pc := 71) (v := 1000000) dX1_factor_71 q970 ?_
      refine go_bipush (pc := 73) (v := 10) dX1_factor_73 (by decide) ?_
      refine go_iload_n (pc := 75) (j := 1) (i := 1) dX1_factor_75 rfl rfl ?_
      refine go_imul (pc := 76) dX1_factor_76 ?_
      refine go_aload_n (pc := 77) (j := 0) (i := 0) dX1_factor_77 rfl rfl ?_
      refine go_getR (pc := 78) (n := x0) (ci := 1) (k := 2) (t := 14) fa_X1_26_1 t_x0 rfl dX1_factor_78 fun r2 t_r2 => ?_
      refine go_iload_n (pc := 81) (j := 2) (i := 2) dX1_factor_81 rfl rfl ?_
      refine go_oB fun n2 e_n2 => ?_
      have t_n2 := t_r2 n2 e_n2
      subst e_n2
      refine go_bald (pc := 82) t_n2 dX1_factor_82 ?_
      refine go_iadd (pc := 83) dX1_factor_83 ?_
      refine go_bipush (pc := 84) (v := 48) dX1_factor_84 (by decide) ?_
      refine go_isub (pc := 86) dX1_factor_86 ?_
      refine go_mminI (pc := 87) dX1_factor_87 q971 q569 q102 q570 (by omega) (by first | exact Nat.le_of_ble_eq_true rfl | (simp [cat_rf, cat_int, cat_ref, cat_long, Value.category]; done) | (simp [cat_rf, cat_int, cat_ref, cat_long, Value.category]; omega)) ?_
      refine go_istore_n (pc := 90) (j := 1) (i := 1) (A' := [(0, .ref x0), (1, .int (if (((10 * x1) + (mI u n2 (xN x2))) - 48) < 1000000 then (((10 * x1) + (mI u n2 (xN x2))) - 48) else 1000000)), (2, .int x2)]) rfl (by decide) rfl rfl rfl dX1_factor_90 ?_
      refine go_iinc (pc := 91) (i := 2) (w := 1) (A' := [(0, .ref x0), (1, .int (if (((10 * x1) + (mI u n2 (xN x2))) - 48) < 1000000 then (((10 * x1) + (mI u n2 (xN x2))) - 48) else 1000000)), (2, .int (x2 + 1))]) rfl (by decide) (by decide) rfl rfl rfl dX1_factor_91 ?_
      refine go_goto (pc := 94) (tgt := 63) dX1_factor_94 (by decide) ?_
      exact go_weak (A' := [(0, .ref x0), (1, .int (if (((10 * x1) + (mI u n2 (xN x2))) - 48) < 1000000 then (((10 * x1) + (mI u n2 (xN x2))) - 48) else 1000000)), (2, .int (x2 + 1))]) (B' := []) ⟨rfl, rfl, rfl, trivial⟩ rfl (fun q h => by cases h) (ih (if (((10 * x1) + (mI u n2 (xN x2))) - 48) < 1000000 then (((10 * x1) + (mI u n2 (xN x2))) - 48) else 1000000) (x2 + 1) u)
end
def b_X1_factor (rc : Nat → zM → Option ((Unit ⊕ Nat) × zM)) (self : Nat) (u : zM) : Option ((Unit ⊕ Nat) × zM) := bd (f_X1_is self 40 u) fun v1 u1 => if v1 = 0 then (bd (f_X1_isOver self u1) fun v2 u2 => lt (fun (u3 : zM) => bd (f_X1_isOver self u3) fun v3 u4 => lt (fun (z1 : Int32) (u5 : zM) => if z1 = (-1) then (bt (f_X1_errs self u5) fun v4 u6 => bd (f_X1_notes self 1 z1 u6) fun v5 u7 => bt (f_X1_next self u7) fun v6 u8 => some (.inl (), u8)) else (bd (f_X1_notes self 1 z1 u5) fun v7 u9 => bt (f_X1_next self u9) fun v8 u10 => some (.inl (), u10))) fun j2 => if v3 = 0 then (bd (f_X1_word self (nm 27 2) u4) fun v9 u11 => j2 v9 u11) else (j2 (-1) u4)) fun j1 => if v2 = 0 then (lt (mR u2 self 2) fun r1 => oB r1 fun n1 => ix (mI u2 self 5) (mN u2 n1) (bd (f_X1_isDigit (mI u2 n1 (xN (mI u2 self 5))) u2) fun v10 u12 => if v10 = 0 then (j1 u12) else (f_X1_factor_L63 rc self (fun z2 u13 => if z2 ≤ 9999 then (bd (f_X1_notes self 0 z2 u13) fun v11 u14 => bt (f_X1_next self u14) fun v12 u15 => some (.inl (), u15)) else (bt (f_X1_errs self u13) fun v13 u16 => bd (f_X1_notes self 0 z2 u16) fun v14 u17 => bt (f_X1_next self u17) fun v15 u18 => some (.inl (), u18))) zFu 0 (mI u12 self 5) u12))) else (j1 u2)) else (bt (f_X1_opens self u1) fun v16 u19 => bt (rc self u19) fun v17 u20 => bt (f_X1_needs self 41 u20) fun v18 u21 => lt (sI u21 self 6 ((mI u21 self 6) - 1)) fun u22 => some (.inl (), u22))
set_option maxHeartbeats 4000000 in
theorem cb_X1_factor (rc : Nat → zM → Option ((Unit ⊕ Nat) × zM)) {FRm LOm Frc Lrc : Nat} (hrc : ∀ (self : Nat), kd self = 1 → zMetT yX1_sum cX1_sum 2 (none) Frc Lrc rvV (obT) [.ref self] (rc self)) (hFrc : Frc ≤ FRm) (hLrc : Lrc ≤ LOm) (self : Nat) (t_self : kd self = 1) : zMetT yX1_factor cX1_factor 3 (none) (FRm + 8) (LOm + 223) rvV (obT) [.ref self] (b_X1_factor rc self) := by
  refine zMetT_of (A := [(0, .ref self)]) (B := []) (ini := false) RX1 rfl (by decide +kernel) (fun h => by cases h) (by simp [lg_sl, Value.category]) (by simp [lv_args, Value.category]) rfl (by simp [lv_args, Value.category]) fun u => ?_
  unfold b_X1_factor
  refine go_aload_n (pc := 0) (j := 0) (i := 0) dX1_factor_0 rfl rfl ?_
  refine go_bipush (pc := 1) (v := 40) dX1_factor_1 (by decide) ?_
  refine go_callVI (pc := 3) (ci := 1) (ct_X1_is self 40 t_self) lk_X1_74 rfl rfl rfl (by decide) t_self ⟨by omega, by omega⟩ (Nat.le_of_ble_eq_true rfl) dX1_factor_3 rfl fun v1 u1 => ?_
  refine go_if_eq (pc := 6) (tgt := 34) dX1_factor_6 (by decide) (fun h1 => ?_) (fun h1 => ?_)
  · refine go_aload_n (pc := 34) (j := 0) (i := 0) dX1_factor_34 rfl rfl ?_
    refine go_callVI (pc := 35) (ci := 1) (ct_X1_isOver self t_self) lk_X1_55 rfl rfl rfl (by decide) t_self ⟨by omega, by omega⟩ (Nat.le_of_ble_eq_true rfl) dX1_factor_35 rfl fun v2 u2 => ?_
    refine go_join0 (pcx := 117) ([(0, .ref self)]) ([]) ([]) (True) (fun u3 _ => ?_) (fun j1 hj1 => ?_)
    · refine go_aload_n (pc := 117) (j := 0) (i := 0) dX1_factor_117 rfl rfl ?_
      refine go_callVI (pc := 118) (ci := 1) (ct_X1_isOver self t_self) lk_X1_55 rfl rfl rfl (by decide) t_self ⟨by omega, by omega⟩ (Nat.le_of_ble_eq_true rfl) dX1_factor_118 rfl fun v3 u4 => ?_
      refine go_join1 (pcx := 134) (α1 := Int32) (fun z1 => [(0, .ref self)]) (fun z1 => []) (fun z1 => [.int z1]) (fun z1 => True) (fun z1 u5 _ => ?_) (fun j2 hj2 => ?_)
      · refine go_istore_n (pc := 134) (j := 1) (i := 1) (A' := [(0, .ref self), (1, .int z1)]) rfl (by decide) rfl rfl rfl dX1_factor_134 ?_
        refine go_iload_n (pc := 135) (j := 1) (i := 1) dX1_factor_135 rfl rfl ?_
        refine go_iconst (pc := 136) (v := (-1)) dX1_factor_136 (by decide) ?_
        refine go_icmp_ne (pc := 137) (tgt := 144) dX1_factor_137 (by decide) (fun h2 => ?_) (fun h2 => ?_)
        · refine go_aload_n (pc := 140) (j := 0) (i := 0) dX1_factor_140 rfl rfl ?_
          refine go_callXV (pc := 141) (ci := 1) (ct_X1_errs self t_self) lk_X1_47 rfl rfl rfl (by decide) t_self ⟨by omega, by omega⟩ (Nat.le_of_ble_eq_true rfl) dX1_factor_141 rfl fun v4 u6 => ?_
          refine go_aload_n (pc := 144) (j := 0) (i := 0) dX1_factor_144 rfl rfl ?_
          refine go_iconst (pc := 145) (v := 1) dX1_factor_145 (by decide) ?_
          refine go_iload_n (pc := 146) (j := 1) (i := 1) dX1_factor_146 rfl rfl ?_
          refine go_callVV (pc := 147) (ci := 1) (ct_X1_notes self 1 z1 t_self) lk_X1_118 rfl rfl rfl (by decide) t_self ⟨by omega, by omega⟩ (Nat.le_of_ble_eq_true rfl) dX1_factor_147 rfl fun v5 u7 => ?_
          refine go_aload_n (pc := 150) (j := 0) (i := 0) dX1_factor_150 rfl rfl ?_
          refine go_callXV (pc := 151) (ci := 1) (ct_X1_next self t_self) lk_X1_77 rfl rfl rfl (by decide) t_self ⟨by omega, by omega⟩ (Nat.le_of_ble_eq_true rfl) dX1_factor_151 rfl fun v6 u8 => ?_
          exact go_vreturnT (pc := 154) rfl dX1_factor_154
        · refine go_aload_n (pc := 144) (j := 0) (i := 0) dX1_factor_144 rfl rfl ?_
          refine go_iconst (pc := 145) (v := 1) dX1_factor_145 (by decide) ?_
          refine go_iload_n (pc := 146) (j := 1) (i := 1) dX1_factor_146 rfl rfl ?_
          refine go_callVV (pc := 147) (ci := 1) (ct_X1_notes self 1 z1 t_self) lk_X1_118 rfl rfl rfl (by decide) t_self ⟨by omega, by omega⟩ (Nat.le_of_ble_eq_true rfl) dX1_factor_147 rfl fun v7 u9 => ?_
          refine go_aload_n (pc := 150) (j := 0) (i := 0) dX1_factor_150 rfl rfl ?_
          refine go_callXV (pc := 151) (ci := 1) (ct_X1_next self t_self) lk_X1_77 rfl rfl rfl (by decide) t_self ⟨by omega, by omega⟩ (Nat.le_of_ble_eq_true rfl) dX1_factor_151 rfl fun v8 u10 => ?_
          exact go_vreturnT (pc := 154) rfl dX1_factor_154
      · refine go_if_eq (pc := 121) (tgt := 128) dX1_factor_121 (by decide) (fun h3 => ?_) (fun h3 => ?_)
        · refine go_aload_n (pc := 128) (j := 0) (i := 0) dX1_factor_128 rfl rfl ?_
          refine go_ldcS (pc := 129) (k := 2) dX1_factor_129 rfl ?_
          refine go_callVI (pc := 131) (ci := 1) (ct_X1_word self (nm 27 2) t_self (by decide)) lk_X1_70 rfl rfl rfl (by decide) t_self ⟨by omega, by omega⟩ (Nat.le_of_ble_eq_true rfl) dX1_factor_131 rfl fun v9 u11 => ?_
          exact go_weak (A' := [(0, .ref self)]) (B' := []) ⟨rfl, trivial⟩ rfl (fun q h => by cases h) (hj2 v9 u11 trivial)
        · refine go_iconst (pc := 124) (v := (-1)) dX1_factor_124 (by decide) ?_
          refine go_goto (pc := 125) (tgt := 134) dX1_factor_125 (by decide) ?_
          exact go_weak (A' := [(0, .ref self)]) (B' := []) ⟨rfl, trivial⟩ rfl (fun q h => by cases h) (hj2 (-1) u4 trivial)
    · refine go_if_ne (pc := 38) (tgt := 117) dX1_factor_38 (by decide) (fun h4 => ?_) (fun h4 => ?_)
      · refine go_aload_n (pc := 41) (j := 0) (i := 0) dX1_factor_41 rfl rfl ?_
        refine go_getR (pc := 42) (n := self) (ci := 1) (k := 2) (t := 14) fa_X1_26_1 t_self rfl dX1_factor_42 fun r1 t_r1 => ?_
        refine go_aload_n (pc := 45) (j := 0) (i := 0) dX1_factor_45 rfl rfl ?_
        refine go_getI (pc := 46) (n := self) (ci := 1) (k := 5) fa_X1_29_1 t_self rfl dX1_factor_46 ?_
        refine go_oB fun n1 e_n1 => ?_
        have t_n1 := t_r1 n1 e_n1
        subst e_n1
        refine go_bald (pc := 49) t_n1 dX1_factor_49 ?_
        refine go_callSI (pc := 50) (ct_X1_isDigit (mI u2 n1 (xN (mI u2 self 5)))) lk_X1_36 rfl ⟨by omega, by omega⟩ (Nat.le_of_ble_eq_true rfl) dX1_factor_50 rfl fun v10 u12 => ?_
        refine go_if_eq (pc := 53) (tgt := 117) dX1_factor_53 (by decide) (fun h5 => ?_) (fun h5 => ?_)
        · exact go_weak (A' := [(0, .ref self)]) (B' := []) ⟨rfl, trivial⟩ rfl (fun q h => by cases h) (hj1 u12 trivial)
        · refine go_iconst (pc := 56) (v := 0) dX1_factor_56 (by decide) ?_
          refine go_istore_n (pc := 57) (j := 1) (i := 1) (A' := [(0, .ref self), (1, .int 0)]) rfl (by decide) rfl rfl rfl dX1_factor_57 ?_
          refine go_aload_n (pc := 58) (j := 0) (i := 0) dX1_factor_58 rfl rfl ?_
          refine go_getI (pc := 59) (n := self) (ci := 1) (k := 5) fa_X1_29_1 t_self rfl dX1_factor_59 ?_
          refine go_istore_n (pc := 62) (j := 2) (i := 2) (A' := [(0, .ref self), (1, .int 0), (2, .int (mI u12 self 5))]) rfl (by decide) rfl rfl rfl dX1_factor_62 ?_
          refine go_weak (A' := [(0, .ref self), (1, .int 0), (2, .int (mI u12 self 5))]) (B' := []) ⟨rfl, rfl, rfl, trivial⟩ rfl (fun q h => by cases h) (g_X1_factor_L63 rc self _ hrc hFrc hLrc t_self ?_ zFu 0 (mI u12 self 5) u12)
          · intro z2 u13
            refine go_iload_n (pc := 97) (j := 1) (i := 1) dX1_factor_97 rfl rfl ?_
            refine go_sipush (pc := 98) (v := 9999) dX1_factor_98 (by decide) ?_
            refine go_icmp_le (pc := 101) (tgt := 108) dX1_factor_101 (by decide) (fun h7 => ?_) (fun h7 => ?_)
            · refine go_aload_n (pc := 108) (j := 0) (i := 0) dX1_factor_108 rfl rfl ?_
              refine go_iconst (pc := 109) (v := 0) dX1_factor_109 (by decide) ?_
              refine go_iload_n (pc := 110) (j := 1) (i := 1) dX1_factor_110 rfl rfl ?_
              refine go_callVV (pc := 111) (ci := 1) (ct_X1_notes self 0 z2 t_self) lk_X1_118 rfl rfl rfl (by decide) t_self ⟨by omega, by omega⟩ (Nat.le_of_ble_eq_true rfl) dX1_factor_111 rfl fun v11 u14 => ?_
              refine go_goto (pc := 114) (tgt := 150) dX1_factor_114 (by decide) ?_
              refine go_aload_n (pc := 150) (j := 0) (i := 0) dX1_factor_150 rfl rfl ?_
              refine go_callXV (pc := 151) (ci := 1) (ct_X1_next self t_self) lk_X1_77 rfl rfl rfl (by decide) t_self ⟨by omega, by omega⟩ (Nat.le_of_ble_eq_true rfl) dX1_factor_151 rfl fun v12 u15 => ?_
              exact go_vreturnT (pc := 154) rfl dX1_factor_154
            · refine go_aload_n (pc := 104) (j := 0) (i := 0) dX1_factor_104 rfl rfl ?_
              refine go_callXV (pc := 105) (ci := 1) (ct_X1_errs self t_self) lk_X1_47 rfl rfl rfl (by decide) t_self ⟨by omega, by omega⟩ (Nat.le_of_ble_eq_true rfl) dX1_factor_105 rfl fun v13 u16 => ?_
              refine go_aload_n (pc := 108) (j := 0) (i := 0) dX1_factor_108 rfl rfl ?_
              refine go_iconst (pc := 109) (v := 0) dX1_factor_109 (by decide) ?_
              refine go_iload_n (pc := 110) (j := 1) (i := 1) dX1_factor_110 rfl rfl ?_
              refine go_callVV (pc := 111) (ci := 1) (ct_X1_notes self 0 z2 t_self) lk_X1_118 rfl rfl rfl (by decide) t_self ⟨by omega, by omega⟩ (Nat.le_of_ble_eq_true rfl) dX1_factor_111 rfl fun v14 u17 => ?_
              refine go_goto (pc := 114) (tgt := 150) dX1_factor_114 (by decide) ?_
              refine go_aload_n (pc := 150) (j := 0) (i := 0) dX1_factor_150 rfl rfl ?_
              refine go_callXV (pc := 151) (ci := 1) (ct_X1_next self t_self) lk_X1_77 rfl rfl rfl (by decide) t_self ⟨by omega, by omega⟩ (Nat.le_of_ble_eq_true rfl) dX1_factor_151 rfl fun v15 u18 => ?_
              exact go_vreturnT (pc := 154) rfl dX1_factor_154
      · exact go_weak (A' := [(0, .ref self)]) (B' := []) ⟨rfl, trivial⟩ rfl (fun q h => by cases h) (hj1 u2 trivial)
  · refine go_aload_n (pc := 9) (j := 0) (i := 0) dX1_factor_9 rfl rfl ?_
    refine go_callXV (pc := 10) (ci := 1) (ct_X1_opens self t_self) lk_X1_125 rfl rfl rfl (by decide) t_self ⟨by omega, by omega⟩ (Nat.le_of_ble_eq_true rfl) dX1_factor_10 rfl fun v16 u19 => ?_
    refine go_aload_n (pc := 13) (j := 0) (i := 0) dX1_factor_13 rfl rfl ?_
    refine go_callXV (pc := 14) (ci := 1) (hrc self t_self) lk_X1_95 rfl rfl rfl (by decide) t_self ⟨by omega, by omega⟩ (Nat.le_of_ble_eq_true rfl) dX1_factor_14 rfl fun v17 u20 => ?_
    refine go_aload_n (pc := 17) (j := 0) (i := 0) dX1_factor_17 rfl rfl ?_
    refine go_bipush (pc := 18) (v := 41) dX1_factor_18 (by decide) ?_
    refine go_callXV (pc := 20) (ci := 1) (ct_X1_needs self 41 t_self) lk_X1_101 rfl rfl rfl (by decide) t_self ⟨by omega, by omega⟩ (Nat.le_of_ble_eq_true rfl) dX1_factor_20 rfl fun v18 u21 => ?_
    refine go_aload_n (pc := 23) (j := 0) (i := 0) dX1_factor_23 rfl rfl ?_
    refine go_dupA (pc := 24) dX1_factor_24 ?_
    refine go_getI (pc := 25) (n := self) (ci := 1) (k := 6) fa_X1_83_1 t_self rfl dX1_factor_25 ?_
    refine go_iconst (pc := 28) (v := 1) dX1_factor_28 (by decide) ?_
    refine go_isub (pc := 29) dX1_factor_29 ?_
    refine go_putI (pc := 30) (n := self) (ci := 1) (k := 6) (v := ((mI u21 self 6) - 1)) pa_X1_83_1 (fun h => by cases h) t_self rfl zKeep_int dX1_factor_30 fun u22 => ?_
    exact go_vreturnT (pc := 33) rfl dX1_factor_33

def f_X1_product_L4 (rc : Nat → zM → Option ((Unit ⊕ Nat) × zM)) (x0 : Nat) : Nat → zM → Option ((Unit ⊕ Nat) × zM)
  | 0, _ => none
  | n + 1, u => bd (f_X1_is x0 42 u) fun v2 u2 => lt (fun (u3 : zM) => lt (mR u3 x0 2) fun r1 => oB r1 fun n1 => ix (mI u3 x0 5) (mN u3 n1) (bt (f_X1_next x0 u3) fun v3 u4 => bt (rc x0 u4) fun v4 u5 => bd (f_X1_notes x0 (mI u3 n1 (xN (mI u3 x0 5))) 0 u5) fun v5 u6 => f_X1_product_L4 rc x0 n u6)) fun j1 => if v2 = 0 then (bd (f_X1_is x0 47 u2) fun v6 u7 => if v6 = 0 then (some (.inl (), u7)) else (j1 u7)) else (j1 u2)
section
variable {c0 s0 : Nat} {tbv : List ExceptionTableEntry}
set_option maxHeartbeats 4000000 in
theorem g_X1_product_L4 (rc : Nat → zM → Option ((Unit ⊕ Nat) × zM)) (x0 : Nat) {FRm LOm Frc Lrc : Nat} (hrc : ∀ (self : Nat), kd self = 1 → zMetT yX1_factor cX1_factor 3 (none) Frc Lrc rvV (obT) [.ref self] (rc self)) (hFrc : Frc ≤ FRm) (hLrc : Lrc ≤ LOm) (t_x0 : kd x0 = 1) : ∀ (n : Nat) (u : zM), Go RX1 cX1_product 2 (none) false (FRm + 7) (LOm + 202) [] (obX (obT)) (zQT rvV) c0 s0 4 [(0, .ref x0)] [] [] u (f_X1_product_L4 rc x0 n u) := by
  intro n
  induction n with
  | zero => intros; exact go_none
  | succ n ih =>
    intro u
    unfold f_X1_product_L4
    refine go_aload_n (pc := 4) (j := 0) (i := 0) dX1_product_4 rfl rfl ?_
    refine go_bipush (pc := 5) (v := 42) dX1_product_5 (by decide) ?_
    refine go_callVI (pc := 7) (ci := 1) (ct_X1_is x0 42 t_x0) lk_X1_74 rfl rfl rfl (by decide) t_x0 ⟨by omega, by omega⟩ (Nat.le_of_ble_eq_true rfl) dX1_product_7 rfl fun v2 u2 => ?_
    refine go_join0 (pcx := 22) ([(0, .ref x0)]) ([]) ([]) (True) (fun u3 _ => ?_) (fun j1 hj1 => ?_)
    · refine go_aload_n (pc := 22) (j := 0) (i := 0) dX1_product_22 rfl rfl ?_
      refine go_getR (pc := 23) (n := x0) (ci := 1) (k := 2) (t := 14) fa_X1_26_1 t_x0 rfl dX1_product_23 fun r1 t_r1 => ?_
      refine go_aload_n (pc := 26) (j := 0) (i := 0) dX1_product_26 rfl rfl ?_
      refine go_getI (pc := 27) (n := x0) (ci := 1) (k := 5) fa_X1_29_1 t_x0 rfl dX1_product_27 ?_
      refine go_oB fun n1 e_n1 => ?_
      have t_n1 := t_r1 n1 e_n1
      subst e_n1
      refine go_bald (pc := 30) t_n1 dX1_product_30 ?_
      refine go_istore_n (pc := 31) (j := 1) (i := 1) (A' := [(0, .ref x0), (1, .int (mI u3 n1 (xN (mI u3 x0 5))))]) rfl (by decide) rfl rfl rfl dX1_product_31 ?_
      refine go_aload_n (pc := 32) (j := 0) (i := 0) dX1_product_32 rfl rfl ?_
      refine go_callXV (pc := 33) (ci := 1) (ct_X1_next x0 t_x0) lk_X1_77 rfl rfl rfl (by decide) t_x0 ⟨by omega, by omega⟩ (Nat.le_of_ble_eq_true rfl) dX1_product_33 rfl fun v3 u4 => ?_
      refine go_aload_n (pc := 36) (j := 0) (i := 0) dX1_product_36 rfl rfl ?_
      refine go_callXV (pc := 37) (ci := 1) (hrc x0 t_x0) lk_X1_122 rfl rfl rfl (by decide) t_x0 ⟨by omega, by omega⟩ (Nat.le_of_ble_eq_true rfl) dX1_product_37 rfl fun v4 u5 => ?_
      refine go_aload_n (pc := 40) (j := 0) (i := 0) dX1_product_40 rfl rfl ?_
      refine go_iload_n (pc := 41) (j := 1) (i := 1) dX1_product_41 rfl rfl ?_
      refine go_iconst (pc := 42) (v := 0) dX1_product_42 (by decide) ?_
      refine go_callVV (pc := 43) (ci := 1) (ct_X1_notes x0 (mI u3 n1 (xN (mI u3 x0 5))) 0 t_x0) lk_X1_118 rfl rfl rfl (by decide) t_x0 ⟨by omega, by omega⟩ (Nat.le_of_ble_eq_true rfl) dX1_product_43 rfl fun v5 u6 => ?_
      refine go_goto (pc := 46) (tgt := 4) dX1_product_46 (by decide) ?_
      exact go_weak (A' := [(0, .ref x0)]) (B' := []) ⟨rfl, trivial⟩ rfl (fun q h => by cases h) (ih u6)
    · refine go_if_ne (pc := 10) (tgt := 22) dX1_product_10 (by decide) (fun h1 => ?_) (fun h1 => ?_)
      · refine go_aload_n (pc := 13) (j := 0) (i := 0) dX1_product_13 rfl rfl ?_
        refine go_bipush (pc := 14) (v := 47) dX1_product_14 (by decide) ?_
        refine go_callVI (pc := 16) (ci := 1) (ct_X1_is x0 47 t_x0) lk_X1_74 rfl rfl rfl (by decide) t_x0 ⟨by omega, by omega⟩ (Nat.le_of_ble_eq_true rfl) dX1_product_16 rfl fun v6 u7 => ?_
        refine go_if_eq (pc := 19) (tgt := 49) dX1_product_19 (by decide) (fun h2 => ?_) (fun h2 => ?_)
        · exact go_vreturnT (pc := 49) rfl dX1_product_49
        · exact go_weak (A' := [(0, .ref x0)]) (B' := []) ⟨rfl, trivial⟩ rfl (fun q h => by cases h) (hj1 u7 trivial)
      · exact go_weak (A' := [(0, .ref x0)]) (B' := []) ⟨rfl, trivial⟩ rfl (fun q h => by cases h) (hj1 u2 trivial)
end
def b_X1_product (rc : Nat → zM → Option ((Unit ⊕ Nat) × zM)) (self : Nat) (u : zM) : Option ((Unit ⊕ Nat) × zM) := bt (rc self u) fun v1 u1 => f_X1_product_L4 rc self zFu u1
set_option maxHeartbeats 4000000 in
theorem cb_X1_product (rc : Nat → zM → Option ((Unit ⊕ Nat) × zM)) {FRm LOm Frc Lrc : Nat} (hrc : ∀ (self : Nat), kd self = 1 → zMetT yX1_factor cX1_factor 3 (none) Frc Lrc rvV (obT) [.ref self] (rc self)) (hFrc : Frc ≤ FRm) (hLrc : Lrc ≤ LOm) (self : Nat) (t_self : kd self = 1) : zMetT yX1_product cX1_product 2 (none) (FRm + 7) (LOm + 202) rvV (obT) [.ref self] (b_X1_product rc self) := by
  refine zMetT_of (A := [(0, .ref self)]) (B := []) (ini := false) RX1 rfl (by decide +kernel) (fun h => by cases h) (by simp [lg_sl, Value.category]) (by simp [lv_args, Value.category]) rfl (by simp [lv_args, Value.category]) fun u => ?_
  unfold b_X1_product
  refine go_aload_n (pc := 0) (j := 0) (i := 0) dX1_product_0 rfl rfl ?_
  refine go_callXV (pc := 1) (ci := 1) (hrc self t_self) lk_X1_122 rfl rfl rfl (by decide) t_self ⟨by omega, by omega⟩ (Nat.le_of_ble_eq_true rfl) dX1_product_1 rfl fun v1 u1 => ?_
  exact go_weak (A' := [(0, .ref self)]) (B' := []) ⟨rfl, trivial⟩ rfl (fun q h => by cases h) (g_X1_product_L4 rc self hrc hFrc hLrc t_self zFu u1)

def f_X1_sum_L4 (rc : Nat → zM → Option ((Unit ⊕ Nat) × zM)) (x0 : Nat) : Nat → zM → Option ((Unit ⊕ Nat) × zM)
  | 0, _ => none
  | n + 1, u => bd (f_X1_is x0 43 u) fun v2 u2 => lt (fun (u3 : zM) => lt (mR u3 x0 2) fun r1 => oB r1 fun n1 => ix (mI u3 x0 5) (mN u3 n1) (bt (f_X1_next x0 u3) fun v3 u4 => bt (rc x0 u4) fun v4 u5 => bd (f_X1_notes x0 (mI u3 n1 (xN (mI u3 x0 5))) 0 u5) fun v5 u6 => f_X1_sum_L4 rc x0 n u6)) fun j1 => if v2 = 0 then (bd (f_X1_is x0 45 u2) fun v6 u7 => if v6 = 0 then (some (.inl (), u7)) else (j1 u7)) else (j1 u2)
section
variable {c0 s0 : Nat} {tbv : List ExceptionTableEntry}
set_option maxHeartbeats 4000000 in
theorem g_X1_sum_L4 (rc : Nat → zM → Option ((Unit ⊕ Nat) × zM)) (x0 : Nat) {FRm LOm Frc Lrc : Nat} (hrc : ∀ (self : Nat), kd self = 1 → zMetT yX1_product cX1_product 2 (none) Frc Lrc rvV (obT) [.ref self] (rc self)) (hFrc : Frc ≤ FRm) (hLrc : Lrc ≤ LOm) (t_x0 : kd x0 = 1) : ∀ (n : Nat) (u : zM), Go RX1 cX1_sum 2 (none) false (FRm + 7) (LOm + 202) [] (obX (obT)) (zQT rvV) c0 s0 4 [(0, .ref x0)] [] [] u (f_X1_sum_L4 rc x0 n u) := by
  intro n
  induction n with
  | zero => intros; exact go_none
  | succ n ih =>
    intro u
    unfold f_X1_sum_L4
    refine go_aload_n (pc := 4) (j := 0) (i := 0) dX1_sum_4 rfl rfl ?_
    refine go_bipush (pc := 5) (v := 43) dX1_sum_5 (by decide) ?_
    refine go_callVI (pc := 7) (ci := 1) (ct_X1_is x0 43 t_x0) lk_X1_74 rfl rfl rfl (by decide) t_x0 ⟨by omega, by omega⟩ (Nat.le_of_ble_eq_true rfl) dX1_sum_7 rfl fun v2 u2 => ?_
    refine go_join0 (pcx := 22) ([(0, .ref x0)]) ([]) ([]) (True) (fun u3 _ => ?_) (fun j1 hj1 => ?_)
    · refine go_aload_n (pc := 22) (j := 0) (i := 0) dX1_sum_22 rfl rfl ?_
      refine go_getR (pc := 23) (n := x0) (ci := 1) (k := 2) (t := 14) fa_X1_26_1 t_x0 rfl dX1_sum_23 fun r1 t_r1 => ?_
      refine go_aload_n (pc := 26) (j := 0) (i := 0) dX1_sum_26 rfl rfl ?_
      refine go_getI (pc := 27) (n := x0) (ci := 1) (k := 5) fa_X1_29_1 t_x0 rfl dX1_sum_27 ?_
      refine go_oB fun n1 e_n1 => ?_
      have t_n1 := t_r1 n1 e_n1
      subst e_n1
      refine go_bald (pc := 30) t_n1 dX1_sum_30 ?_
      refine go_istore_n (pc := 31) (j := 1) (i := 1) (A' := [(0, .ref x0), (1, .int (mI u3 n1 (xN (mI u3 x0 5))))]) rfl (by decide) rfl rfl rfl dX1_sum_31 ?_
      refine go_aload_n (pc := 32) (j := 0) (i := 0) dX1_sum_32 rfl rfl ?_
      refine go_callXV (pc := 33) (ci := 1) (ct_X1_next x0 t_x0) lk_X1_77 rfl rfl rfl (by decide) t_x0 ⟨by omega, by omega⟩ (Nat.le_of_ble_eq_true rfl) dX1_sum_33 rfl fun v3 u4 => ?_
      refine go_aload_n (pc := 36) (j := 0) (i := 0) dX1_sum_36 rfl rfl ?_
      refine go_callXV (pc := 37) (ci := 1) (hrc x0 t_x0) lk_X1_115 rfl rfl rfl (by decide) t_x0 ⟨by omega, by omega⟩ (Nat.le_of_ble_eq_true rfl) dX1_sum_37 rfl fun v4 u5 => ?_
      refine go_aload_n (pc := 40) (j := 0) (i := 0) dX1_sum_40 rfl rfl ?_
      refine go_iload_n (pc := 41) (j := 1) (i := 1) dX1_sum_41 rfl rfl ?_
      refine go_iconst (pc := 42) (v := 0) dX1_sum_42 (by decide) ?_
      refine go_callVV (pc := 43) (ci := 1) (ct_X1_notes x0 (mI u3 n1 (xN (mI u3 x0 5))) 0 t_x0) lk_X1_118 rfl rfl rfl (by decide) t_x0 ⟨by omega, by omega⟩ (Nat.le_of_ble_eq_true rfl) dX1_sum_43 rfl fun v5 u6 => ?_
      refine go_goto (pc := 46) (tgt := 4) dX1_sum_46 (by decide) ?_
      exact go_weak (A' := [(0, .ref x0)]) (B' := []) ⟨rfl, trivial⟩ rfl (fun q h => by cases h) (ih u6)
    · refine go_if_ne (pc := 10) (tgt := 22) dX1_sum_10 (by decide) (fun h1 => ?_) (fun h1 => ?_)
      · refine go_aload_n (pc := 13) (j := 0) (i := 0) dX1_sum_13 rfl rfl ?_
        refine go_bipush (pc := 14) (v := 45) dX1_sum_14 (by decide) ?_
        refine go_callVI (pc := 16) (ci := 1) (ct_X1_is x0 45 t_x0) lk_X1_74 rfl rfl rfl (by decide) t_x0 ⟨by omega, by omega⟩ (Nat.le_of_ble_eq_true rfl) dX1_sum_16 rfl fun v6 u7 => ?_
        refine go_if_eq (pc := 19) (tgt := 49) dX1_sum_19 (by decide) (fun h2 => ?_) (fun h2 => ?_)
        · exact go_vreturnT (pc := 49) rfl dX1_sum_49
        · exact go_weak (A' := [(0, .ref x0)]) (B' := []) ⟨rfl, trivial⟩ rfl (fun q h => by cases h) (hj1 u7 trivial)
      · exact go_weak (A' := [(0, .ref x0)]) (B' := []) ⟨rfl, trivial⟩ rfl (fun q h => by cases h) (hj1 u2 trivial)
end
def b_X1_sum (rc : Nat → zM → Option ((Unit ⊕ Nat) × zM)) (self : Nat) (u : zM) : Option ((Unit ⊕ Nat) × zM) := bt (rc self u) fun v1 u1 => f_X1_sum_L4 rc self zFu u1
set_option maxHeartbeats 4000000 in
theorem cb_X1_sum (rc : Nat → zM → Option ((Unit ⊕ Nat) × zM)) {FRm LOm Frc Lrc : Nat} (hrc : ∀ (self : Nat), kd self = 1 → zMetT yX1_product cX1_product 2 (none) Frc Lrc rvV (obT) [.ref self] (rc self)) (hFrc : Frc ≤ FRm) (hLrc : Lrc ≤ LOm) (self : Nat) (t_self : kd self = 1) : zMetT yX1_sum cX1_sum 2 (none) (FRm + 7) (LOm + 202) rvV (obT) [.ref self] (b_X1_sum rc self) := by
  refine zMetT_of (A := [(0, .ref self)]) (B := []) (ini := false) RX1 rfl (by decide +kernel) (fun h => by cases h) (by simp [lg_sl, Value.category]) (by simp [lv_args, Value.category]) rfl (by simp [lv_args, Value.category]) fun u => ?_
  unfold b_X1_sum
  refine go_aload_n (pc := 0) (j := 0) (i := 0) dX1_sum_0 rfl rfl ?_
  refine go_callXV (pc := 1) (ci := 1) (hrc self t_self) lk_X1_115 rfl rfl rfl (by decide) t_self ⟨by omega, by omega⟩ (Nat.le_of_ble_eq_true rfl) dX1_sum_1 rfl fun v1 u1 => ?_
  exact go_weak (A' := [(0, .ref self)]) (B' := []) ⟨rfl, trivial⟩ rfl (fun q h => by cases h) (g_X1_sum_L4 rc self hrc hFrc hLrc t_self zFu u1)

def f_X1_sum : Nat → Nat → zM → Option ((Unit ⊕ Nat) × zM)
  | 0 => fun _ _ => none
  | d + 1 => b_X1_sum (b_X1_product (b_X1_factor (f_X1_sum d)))
theorem ct_X1_sum : ∀ (d : Nat) (self : Nat), kd self = 1 → zMetT yX1_sum cX1_sum 2 (none) (22 * d) (627 * d) rvV (obT) [.ref self] (f_X1_sum d self) := by
  intro d
  induction d with
  | zero => intro self t_self u b u' h; cases h
  | succ d ih =>
    intro self t_self
    rw [show 22 * (d + 1) = 22 * d + 8 + 7 + 7 by omega, show 627 * (d + 1) = 627 * d + 223 + 202 + 202 by omega]
    exact cb_X1_sum _ (fun s h => cb_X1_product _ (fun s h => cb_X1_factor _ ih (Nat.le_refl _) (Nat.le_refl _) s h) (Nat.le_refl _) (Nat.le_refl _) s h) (Nat.le_refl _) (Nat.le_refl _) self t_self
def f_X1_both_L4 (rc : Nat → zM → Option ((Unit ⊕ Nat) × zM)) (x0 : Nat) : Nat → zM → Option ((Unit ⊕ Nat) × zM)
  | 0, _ => none
  | n + 1, u => bd (f_X1_isWord x0 (nm 27 4) u) fun v2 u2 => if v2 = 0 then (some (.inl (), u2)) else (bt (f_X1_next x0 u2) fun v3 u3 => bt (rc x0 u3) fun v4 u4 => bd (f_X1_notes x0 38 0 u4) fun v5 u5 => f_X1_both_L4 rc x0 n u5)
section
variable {c0 s0 : Nat} {tbv : List ExceptionTableEntry}
set_option maxHeartbeats 4000000 in
theorem g_X1_both_L4 (rc : Nat → zM → Option ((Unit ⊕ Nat) × zM)) (x0 : Nat) {FRm LOm Frc Lrc : Nat} (hrc : ∀ (self : Nat), kd self = 1 → zMetT yX1_holds cX1_holds 2 (none) Frc Lrc rvV (obT) [.ref self] (rc self)) (hFrc : Frc ≤ FRm) (hLrc : Lrc ≤ LOm) (t_x0 : kd x0 = 1) : ∀ (n : Nat) (u : zM), Go RX1 cX1_both 1 (none) false (FRm + 7) (LOm + 202) [] (obX (obT)) (zQT rvV) c0 s0 4 [(0, .ref x0)] [] [] u (f_X1_both_L4 rc x0 n u) := by
  intro n
  induction n with
  | zero => intros; exact go_none
  | succ n ih =>
    intro u
    unfold f_X1_both_L4
    refine go_aload_n (pc := 4) (j := 0) (i := 0) dX1_both_4 rfl rfl ?_
    refine go_ldcS (pc := 5) (k := 4) dX1_both_5 rfl ?_
    refine go_callVI (pc := 7) (ci := 1) (ct_X1_isWord x0 (nm 27 4) t_x0 (by decide)) lk_X1_141 rfl rfl rfl (by decide) t_x0 ⟨by omega, by omega⟩ (Nat.le_of_ble_eq_true rfl) dX1_both_7 rfl fun v2 u2 => ?_
    refine go_if_eq (pc := 10) (tgt := 31) dX1_both_10 (by decide) (fun h1 => ?_) (fun h1 => ?_)
    · exact go_vreturnT (pc := 31) rfl dX1_both_31
    · refine go_aload_n (pc := 13) (j := 0) (i := 0) dX1_both_13 rfl rfl ?_
      refine go_callXV (pc := 14) (ci := 1) (ct_X1_next x0 t_x0) lk_X1_77 rfl rfl rfl (by decide) t_x0 ⟨by omega, by omega⟩ (Nat.le_of_ble_eq_true rfl) dX1_both_14 rfl fun v3 u3 => ?_
      refine go_aload_n (pc := 17) (j := 0) (i := 0) dX1_both_17 rfl rfl ?_
      refine go_callXV (pc := 18) (ci := 1) (hrc x0 t_x0) lk_X1_145 rfl rfl rfl (by decide) t_x0 ⟨by omega, by omega⟩ (Nat.le_of_ble_eq_true rfl) dX1_both_18 rfl fun v4 u4 => ?_
      refine go_aload_n (pc := 21) (j := 0) (i := 0) dX1_both_21 rfl rfl ?_
      refine go_bipush (pc := 22) (v := 38) dX1_both_22 (by decide) ?_
      refine go_iconst (pc := 24) (v := 0) dX1_both_24 (by decide) ?_
      refine go_callVV (pc := 25) (ci := 1) (ct_X1_notes x0 38 0 t_x0) lk_X1_118 rfl rfl rfl (by decide) t_x0 ⟨by omega, by omega⟩ (Nat.le_of_ble_eq_true rfl) dX1_both_25 rfl fun v5 u5 => ?_
      refine go_goto (pc := 28) (tgt := 4) dX1_both_28 (by decide) ?_
      exact go_weak (A' := [(0, .ref x0)]) (B' := []) ⟨rfl, trivial⟩ rfl (fun q h => by cases h) (ih u5)
end
def b_X1_both (rc : Nat → zM → Option ((Unit ⊕ Nat) × zM)) (self : Nat) (u : zM) : Option ((Unit ⊕ Nat) × zM) := bt (rc self u) fun v1 u1 => f_X1_both_L4 rc self zFu u1
set_option maxHeartbeats 4000000 in
theorem cb_X1_both (rc : Nat → zM → Option ((Unit ⊕ Nat) × zM)) {FRm LOm Frc Lrc : Nat} (hrc : ∀ (self : Nat), kd self = 1 → zMetT yX1_holds cX1_holds 2 (none) Frc Lrc rvV (obT) [.ref self] (rc self)) (hFrc : Frc ≤ FRm) (hLrc : Lrc ≤ LOm) (self : Nat) (t_self : kd self = 1) : zMetT yX1_both cX1_both 1 (none) (FRm + 7) (LOm + 202) rvV (obT) [.ref self] (b_X1_both rc self) := by
  refine zMetT_of (A := [(0, .ref self)]) (B := []) (ini := false) RX1 rfl (by decide +kernel) (fun h => by cases h) (by simp [lg_sl, Value.category]) (by simp [lv_args, Value.category]) rfl (by simp [lv_args, Value.category]) fun u => ?_
  unfold b_X1_both
  refine go_aload_n (pc := 0) (j := 0) (i := 0) dX1_both_0 rfl rfl ?_
  refine go_callXV (pc := 1) (ci := 1) (hrc self t_self) lk_X1_145 rfl rfl rfl (by decide) t_self ⟨by omega, by omega⟩ (Nat.le_of_ble_eq_true rfl) dX1_both_1 rfl fun v1 u1 => ?_
  exact go_weak (A' := [(0, .ref self)]) (B' := []) ⟨rfl, trivial⟩ rfl (fun q h => by cases h) (g_X1_both_L4 rc self hrc hFrc hLrc t_self zFu u1)

def f_X1_either_L4 (rc : Nat → zM → Option ((Unit ⊕ Nat) × zM)) (x0 : Nat) : Nat → zM → Option ((Unit ⊕ Nat) × zM)
  | 0, _ => none
  | n + 1, u => bd (f_X1_isWord x0 (nm 27 5) u) fun v2 u2 => if v2 = 0 then (some (.inl (), u2)) else (bt (f_X1_next x0 u2) fun v3 u3 => bt (rc x0 u3) fun v4 u4 => bd (f_X1_notes x0 124 0 u4) fun v5 u5 => f_X1_either_L4 rc x0 n u5)
section
variable {c0 s0 : Nat} {tbv : List ExceptionTableEntry}
set_option maxHeartbeats 4000000 in
theorem g_X1_either_L4 (rc : Nat → zM → Option ((Unit ⊕ Nat) × zM)) (x0 : Nat) {FRm LOm Frc Lrc : Nat} (hrc : ∀ (self : Nat), kd self = 1 → zMetT yX1_both cX1_both 1 (none) Frc Lrc rvV (obT) [.ref self] (rc self)) (hFrc : Frc ≤ FRm) (hLrc : Lrc ≤ LOm) (t_x0 : kd x0 = 1) : ∀ (n : Nat) (u : zM), Go RX1 cX1_either 1 (none) false (FRm + 7) (LOm + 202) [] (obX (obT)) (zQT rvV) c0 s0 4 [(0, .ref x0)] [] [] u (f_X1_either_L4 rc x0 n u) := by
  intro n
  induction n with
  | zero => intros; exact go_none
  | succ n ih =>
    intro u
    unfold f_X1_either_L4
    refine go_aload_n (pc := 4) (j := 0) (i := 0) dX1_either_4 rfl rfl ?_
    refine go_ldcS (pc := 5) (k := 5) dX1_either_5 rfl ?_
    refine go_callVI (pc := 7) (ci := 1) (ct_X1_isWord x0 (nm 27 5) t_x0 (by decide)) lk_X1_141 rfl rfl rfl (by decide) t_x0 ⟨by omega, by omega⟩ (Nat.le_of_ble_eq_true rfl) dX1_either_7 rfl fun v2 u2 => ?_
    refine go_if_eq (pc := 10) (tgt := 31) dX1_either_10 (by decide) (fun h1 => ?_) (fun h1 => ?_)
    · exact go_vreturnT (pc := 31) rfl dX1_either_31
    · refine go_aload_n (pc := 13) (j := 0) (i := 0) dX1_either_13 rfl rfl ?_
      refine go_callXV (pc := 14) (ci := 1) (ct_X1_next x0 t_x0) lk_X1_77 rfl rfl rfl (by decide) t_x0 ⟨by omega, by omega⟩ (Nat.le_of_ble_eq_true rfl) dX1_either_14 rfl fun v3 u3 => ?_
      refine go_aload_n (pc := 17) (j := 0) (i := 0) dX1_either_17 rfl rfl ?_
      refine go_callXV (pc := 18) (ci := 1) (hrc x0 t_x0) lk_X1_136 rfl rfl rfl (by decide) t_x0 ⟨by omega, by omega⟩ (Nat.le_of_ble_eq_true rfl) dX1_either_18 rfl fun v4 u4 => ?_
      refine go_aload_n (pc := 21) (j := 0) (i := 0) dX1_either_21 rfl rfl ?_
      refine go_bipush (pc := 22) (v := 124) dX1_either_22 (by decide) ?_
      refine go_iconst (pc := 24) (v := 0) dX1_either_24 (by decide) ?_
      refine go_callVV (pc := 25) (ci := 1) (ct_X1_notes x0 124 0 t_x0) lk_X1_118 rfl rfl rfl (by decide) t_x0 ⟨by omega, by omega⟩ (Nat.le_of_ble_eq_true rfl) dX1_either_25 rfl fun v5 u5 => ?_
      refine go_goto (pc := 28) (tgt := 4) dX1_either_28 (by decide) ?_
      exact go_weak (A' := [(0, .ref x0)]) (B' := []) ⟨rfl, trivial⟩ rfl (fun q h => by cases h) (ih u5)
end
def b_X1_either (rc : Nat → zM → Option ((Unit ⊕ Nat) × zM)) (self : Nat) (u : zM) : Option ((Unit ⊕ Nat) × zM) := bt (rc self u) fun v1 u1 => f_X1_either_L4 rc self zFu u1
set_option maxHeartbeats 4000000 in
theorem cb_X1_either (rc : Nat → zM → Option ((Unit ⊕ Nat) × zM)) {FRm LOm Frc Lrc : Nat} (hrc : ∀ (self : Nat), kd self = 1 → zMetT yX1_both cX1_both 1 (none) Frc Lrc rvV (obT) [.ref self] (rc self)) (hFrc : Frc ≤ FRm) (hLrc : Lrc ≤ LOm) (self : Nat) (t_self : kd self = 1) : zMetT yX1_either cX1_either 1 (none) (FRm + 7) (LOm + 202) rvV (obT) [.ref self] (b_X1_either rc self) := by
  refine zMetT_of (A := [(0, .ref self)]) (B := []) (ini := false) RX1 rfl (by decide +kernel) (fun h => by cases h) (by simp [lg_sl, Value.category]) (by simp [lv_args, Value.category]) rfl (by simp [lv_args, Value.category]) fun u => ?_
  unfold b_X1_either
  refine go_aload_n (pc := 0) (j := 0) (i := 0) dX1_either_0 rfl rfl ?_
  refine go_callXV (pc := 1) (ci := 1) (hrc self t_self) lk_X1_136 rfl rfl rfl (by decide) t_self ⟨by omega, by omega⟩ (Nat.le_of_ble_eq_true rfl) dX1_either_1 rfl fun v1 u1 => ?_
  exact go_weak (A' := [(0, .ref self)]) (B' := []) ⟨rfl, trivial⟩ rfl (fun q h => by cases h) (g_X1_either_L4 rc self hrc hFrc hLrc t_self zFu u1)

def b_X1_holds (rc : Nat → zM → Option ((Unit ⊕ Nat) × zM)) (rd : Nat → zM → Option ((Unit ⊕ Nat) × zM)) (self : Nat) (u : zM) : Option ((Unit ⊕ Nat) × zM) := bd (f_X1_isWord self (nm 27 3) u) fun v1 u1 => if v1 = 0 then (bd (f_X1_is self 91 u1) fun v2 u2 => if v2 = 0 then (bt (f_X1_sum 10 self u2) fun v3 u3 => bd (f_X1_is self 60 u3) fun v4 u4 => lt (fun (u5 : zM) => lt (mR u5 self 2) fun r1 => oB r1 fun n1 => ix (mI u5 self 5) (mN u5 n1) (bt (f_X1_next self u5) fun v5 u6 => bt (f_X1_sum 10 self u6) fun v6 u7 => bd (f_X1_notes self (mI u5 n1 (xN (mI u5 self 5))) 0 u7) fun v7 u8 => some (.inl (), u8))) fun j1 => if v4 = 0 then (bd (f_X1_is self 62 u4) fun v8 u9 => if v8 = 0 then (bd (f_X1_is self 61 u9) fun v9 u10 => if v9 = 0 then (bt (f_X1_errs self u10) fun v10 u11 => j1 u11) else (j1 u10)) else (j1 u9)) else (j1 u4)) else (bt (f_X1_opens self u2) fun v11 u12 => bt (rd self u12) fun v12 u13 => bt (f_X1_needs self 93 u13) fun v13 u14 => lt (sI u14 self 6 ((mI u14 self 6) - 1)) fun u15 => some (.inl (), u15))) else (bt (f_X1_opens self u1) fun v14 u16 => bt (rc self u16) fun v15 u17 => bd (f_X1_notes self 2 0 u17) fun v16 u18 => lt (sI u18 self 6 ((mI u18 self 6) - 1)) fun u19 => some (.inl (), u19))
set_option maxHeartbeats 4000000 in
theorem cb_X1_holds (rc : Nat → zM → Option ((Unit ⊕ Nat) × zM)) (rd : Nat → zM → Option ((Unit ⊕ Nat) × zM)) {FRm LOm Frc Lrc Frd Lrd : Nat} (hrc : ∀ (self : Nat), kd self = 1 → zMetT yX1_holds cX1_holds 2 (none) Frc Lrc rvV (obT) [.ref self] (rc self)) (hFrc : Frc ≤ FRm) (hLrc : Lrc ≤ LOm) (hrd : ∀ (self : Nat), kd self = 1 → zMetT yX1_either cX1_either 1 (none) Frd Lrd rvV (obT) [.ref self] (rd self)) (hFrd : Frd ≤ FRm) (hLrd : Lrd ≤ LOm) (self : Nat) (t_self : kd self = 1) : zMetT yX1_holds cX1_holds 2 (none) (FRm + 221) (LOm + 6291) rvV (obT) [.ref self] (b_X1_holds rc rd self) := by
  refine zMetT_of (A := [(0, .ref self)]) (B := []) (ini := false) RX1 rfl (by decide +kernel) (fun h => by cases h) (by simp [lg_sl, Value.category]) (by simp [lv_args, Value.category]) rfl (by simp [lv_args, Value.category]) fun u => ?_
  unfold b_X1_holds
  refine go_aload_n (pc := 0) (j := 0) (i := 0) dX1_holds_0 rfl rfl ?_
  refine go_ldcS (pc := 1) (k := 3) dX1_holds_1 rfl ?_
  refine go_callVI (pc := 3) (ci := 1) (ct_X1_isWord self (nm 27 3) t_self (by decide)) lk_X1_141 rfl rfl rfl (by decide) t_self ⟨by omega, by omega⟩ (Nat.le_of_ble_eq_true rfl) dX1_holds_3 rfl fun v1 u1 => ?_
  refine go_if_eq (pc := 6) (tgt := 36) dX1_holds_6 (by decide) (fun h1 => ?_) (fun h1 => ?_)
  · refine go_aload_n (pc := 36) (j := 0) (i := 0) dX1_holds_36 rfl rfl ?_
    refine go_bipush (pc := 37) (v := 91) dX1_holds_37 (by decide) ?_
    refine go_callVI (pc := 39) (ci := 1) (ct_X1_is self 91 t_self) lk_X1_74 rfl rfl rfl (by decide) t_self ⟨by omega, by omega⟩ (Nat.le_of_ble_eq_true rfl) dX1_holds_39 rfl fun v2 u2 => ?_
    refine go_if_eq (pc := 42) (tgt := 72) dX1_holds_42 (by decide) (fun h2 => ?_) (fun h2 => ?_)
    · refine go_aload_n (pc := 72) (j := 0) (i := 0) dX1_holds_72 rfl rfl ?_
      refine go_callXV (pc := 73) (ci := 1) (ct_X1_sum 10 self t_self) lk_X1_95 rfl rfl rfl (by decide) t_self ⟨by omega, by omega⟩ (Nat.le_of_ble_eq_true rfl) dX1_holds_73 rfl fun v3 u3 => ?_
      refine go_aload_n (pc := 76) (j := 0) (i := 0) dX1_holds_76 rfl rfl ?_
      refine go_bipush (pc := 77) (v := 60) dX1_holds_77 (by decide) ?_
      refine go_callVI (pc := 79) (ci := 1) (ct_X1_is self 60 t_self) lk_X1_74 rfl rfl rfl (by decide) t_self ⟨by omega, by omega⟩ (Nat.le_of_ble_eq_true rfl) dX1_holds_79 rfl fun v4 u4 => ?_
      refine go_join0 (pcx := 107) ([(0, .ref self)]) ([]) ([]) (True) (fun u5 _ => ?_) (fun j1 hj1 => ?_)
      · refine go_aload_n (pc := 107) (j := 0) (i := 0) dX1_holds_107 rfl rfl ?_
        refine go_getR (pc := 108) (n := self) (ci := 1) (k := 2) (t := 14) fa_X1_26_1 t_self rfl dX1_holds_108 fun r1 t_r1 => ?_
        refine go_aload_n (pc := 111) (j := 0) (i := 0) dX1_holds_111 rfl rfl ?_
        refine go_getI (pc := 112) (n := self) (ci := 1) (k := 5) fa_X1_29_1 t_self rfl dX1_holds_112 ?_
        refine go_oB fun n1 e_n1 => ?_
        have t_n1 := t_r1 n1 e_n1
        subst e_n1
        refine go_bald (pc := 115) t_n1 dX1_holds_115 ?_
        refine go_istore_n (pc := 116) (j := 1) (i := 1) (A' := [(0, .ref self), (1, .int (mI u5 n1 (xN (mI u5 self 5))))]) rfl (by decide) rfl rfl rfl dX1_holds_116 ?_
        refine go_aload_n (pc := 117) (j := 0) (i := 0) dX1_holds_117 rfl rfl ?_
        refine go_callXV (pc := 118) (ci := 1) (ct_X1_next self t_self) lk_X1_77 rfl rfl rfl (by decide) t_self ⟨by omega, by omega⟩ (Nat.le_of_ble_eq_true rfl) dX1_holds_118 rfl fun v5 u6 => ?_
        refine go_aload_n (pc := 121) (j := 0) (i := 0) dX1_holds_121 rfl rfl ?_
        refine go_callXV (pc := 122) (ci := 1) (ct_X1_sum 10 self t_self) lk_X1_95 rfl rfl rfl (by decide) t_self ⟨by omega, by omega⟩ (Nat.le_of_ble_eq_true rfl) dX1_holds_122 rfl fun v6 u7 => ?_
        refine go_aload_n (pc := 125) (j := 0) (i := 0) dX1_holds_125 rfl rfl ?_
        refine go_iload_n (pc := 126) (j := 1) (i := 1) dX1_holds_126 rfl rfl ?_
        refine go_iconst (pc := 127) (v := 0) dX1_holds_127 (by decide) ?_
        refine go_callVV (pc := 128) (ci := 1) (ct_X1_notes self (mI u5 n1 (xN (mI u5 self 5))) 0 t_self) lk_X1_118 rfl rfl rfl (by decide) t_self ⟨by omega, by omega⟩ (Nat.le_of_ble_eq_true rfl) dX1_holds_128 rfl fun v7 u8 => ?_
        exact go_vreturnT (pc := 131) rfl dX1_holds_131
      · refine go_if_ne (pc := 82) (tgt := 107) dX1_holds_82 (by decide) (fun h3 => ?_) (fun h3 => ?_)
        · refine go_aload_n (pc := 85) (j := 0) (i := 0) dX1_holds_85 rfl rfl ?_
          refine go_bipush (pc := 86) (v := 62) dX1_holds_86 (by decide) ?_
          refine go_callVI (pc := 88) (ci := 1) (ct_X1_is self 62 t_self) lk_X1_74 rfl rfl rfl (by decide) t_self ⟨by omega, by omega⟩ (Nat.le_of_ble_eq_true rfl) dX1_holds_88 rfl fun v8 u9 => ?_
          refine go_if_ne (pc := 91) (tgt := 107) dX1_holds_91 (by decide) (fun h4 => ?_) (fun h4 => ?_)
          · refine go_aload_n (pc := 94) (j := 0) (i := 0) dX1_holds_94 rfl rfl ?_
            refine go_bipush (pc := 95) (v := 61) dX1_holds_95 (by decide) ?_
            refine go_callVI (pc := 97) (ci := 1) (ct_X1_is self 61 t_self) lk_X1_74 rfl rfl rfl (by decide) t_self ⟨by omega, by omega⟩ (Nat.le_of_ble_eq_true rfl) dX1_holds_97 rfl fun v9 u10 => ?_
            refine go_if_ne (pc := 100) (tgt := 107) dX1_holds_100 (by decide) (fun h5 => ?_) (fun h5 => ?_)
            · refine go_aload_n (pc := 103) (j := 0) (i := 0) dX1_holds_103 rfl rfl ?_
              refine go_callXV (pc := 104) (ci := 1) (ct_X1_errs self t_self) lk_X1_47 rfl rfl rfl (by decide) t_self ⟨by omega, by omega⟩ (Nat.le_of_ble_eq_true rfl) dX1_holds_104 rfl fun v10 u11 => ?_
              exact go_weak (A' := [(0, .ref self)]) (B' := []) ⟨rfl, trivial⟩ rfl (fun q h => by cases h) (hj1 u11 trivial)
            · exact go_weak (A' := [(0, .ref self)]) (B' := []) ⟨rfl, trivial⟩ rfl (fun q h => by cases h) (hj1 u10 trivial)
          · exact go_weak (A' := [(0, .ref self)]) (B' := []) ⟨rfl, trivial⟩ rfl (fun q h => by cases h) (hj1 u9 trivial)
        · exact go_weak (A' := [(0, .ref self)]) (B' := []) ⟨rfl, trivial⟩ rfl (fun q h => by cases h) (hj1 u4 trivial)
    · refine go_aload_n (pc := 45) (j := 0) (i := 0) dX1_holds_45 rfl rfl ?_
      refine go_callXV (pc := 46) (ci := 1) (ct_X1_opens self t_self) lk_X1_125 rfl rfl rfl (by decide) t_self ⟨by omega, by omega⟩ (Nat.le_of_ble_eq_true rfl) dX1_holds_46 rfl fun v11 u12 => ?_
      refine go_aload_n (pc := 49) (j := 0) (i := 0) dX1_holds_49 rfl rfl ?_
      refine go_callXV (pc := 50) (ci := 1) (hrd self t_self) lk_X1_98 rfl rfl rfl (by decide) t_self ⟨by omega, by omega⟩ (Nat.le_of_ble_eq_true rfl) dX1_holds_50 rfl fun v12 u13 => ?_
      refine go_aload_n (pc := 53) (j := 0) (i := 0) dX1_holds_53 rfl rfl ?_
      refine go_bipush (pc := 54) (v := 93) dX1_holds_54 (by decide) ?_
      refine go_callXV (pc := 56) (ci := 1) (ct_X1_needs self 93 t_self) lk_X1_101 rfl rfl rfl (by decide) t_self ⟨by omega, by omega⟩ (Nat.le_of_ble_eq_true rfl) dX1_holds_56 rfl fun v13 u14 => ?_
      refine go_aload_n (pc := 59) (j := 0) (i := 0) dX1_holds_59 rfl rfl ?_
      refine go_dupA (pc := 60) dX1_holds_60 ?_
      refine go_getI (pc := 61) (n := self) (ci := 1) (k := 6) fa_X1_83_1 t_self rfl dX1_holds_61 ?_
      refine go_iconst (pc := 64) (v := 1) dX1_holds_64 (by decide) ?_
      refine go_isub (pc := 65) dX1_holds_65 ?_
      refine go_putI (pc := 66) (n := self) (ci := 1) (k := 6) (v := ((mI u14 self 6) - 1)) pa_X1_83_1 (fun h => by cases h) t_self rfl zKeep_int dX1_holds_66 fun u15 => ?_
      refine go_goto (pc := 69) (tgt := 131) dX1_holds_69 (by decide) ?_
      exact go_vreturnT (pc := 131) rfl dX1_holds_131
  · refine go_aload_n (pc := 9) (j := 0) (i := 0) dX1_holds_9 rfl rfl ?_
    refine go_callXV (pc := 10) (ci := 1) (ct_X1_opens self t_self) lk_X1_125 rfl rfl rfl (by decide) t_self ⟨by omega, by omega⟩ (Nat.le_of_ble_eq_true rfl) dX1_holds_10 rfl fun v14 u16 => ?_
    refine go_aload_n (pc := 13) (j := 0) (i := 0) dX1_holds_13 rfl rfl ?_
    refine go_callXV (pc := 14) (ci := 1) (hrc self t_self) lk_X1_145 rfl rfl rfl (by decide) t_self ⟨by omega, by omega⟩ (Nat.le_of_ble_eq_true rfl) dX1_holds_14 rfl fun v15 u17 => ?_
    refine go_aload_n (pc := 17) (j := 0) (i := 0) dX1_holds_17 rfl rfl ?_
    refine go_iconst (pc := 18) (v := 2) dX1_holds_18 (by decide) ?_
    refine go_iconst (pc := 19) (v := 0) dX1_holds_19 (by decide) ?_
    refine go_callVV (pc := 20) (ci := 1) (ct_X1_notes self 2 0 t_self) lk_X1_118 rfl rfl rfl (by decide) t_self ⟨by omega, by omega⟩ (Nat.le_of_ble_eq_true rfl) dX1_holds_20 rfl fun v16 u18 => ?_
    refine go_aload_n (pc := 23) (j := 0) (i := 0) dX1_holds_23 rfl rfl ?_
    refine go_dupA (pc := 24) dX1_holds_24 ?_
    refine go_getI (pc := 25) (n := self) (ci := 1) (k := 6) fa_X1_83_1 t_self rfl dX1_holds_25 ?_
    refine go_iconst (pc := 28) (v := 1) dX1_holds_28 (by decide) ?_
    refine go_isub (pc := 29) dX1_holds_29 ?_
    refine go_putI (pc := 30) (n := self) (ci := 1) (k := 6) (v := ((mI u18 self 6) - 1)) pa_X1_83_1 (fun h => by cases h) t_self rfl zKeep_int dX1_holds_30 fun u19 => ?_
    refine go_goto (pc := 33) (tgt := 131) dX1_holds_33 (by decide) ?_
    exact go_vreturnT (pc := 131) rfl dX1_holds_131

def f_X1_holds : Nat → Nat → zM → Option ((Unit ⊕ Nat) × zM)
  | 0 => fun _ _ => none
  | d + 1 => b_X1_holds (f_X1_holds d) (b_X1_either (b_X1_both (f_X1_holds d)))
theorem ct_X1_holds : ∀ (d : Nat) (self : Nat), kd self = 1 → zMetT yX1_holds cX1_holds 2 (none) (235 * d) (6695 * d) rvV (obT) [.ref self] (f_X1_holds d self) := by
  intro d
  induction d with
  | zero => intro self t_self u b u' h; cases h
  | succ d ih =>
    intro self t_self
    rw [show 235 * (d + 1) = 235 * d + 7 + 7 + 221 by omega, show 6695 * (d + 1) = 6695 * d + 202 + 202 + 6291 by omega]
    exact cb_X1_holds _ _ ih (by omega) (by omega) (fun s h => cb_X1_either _ (fun s h => cb_X1_both _ ih (Nat.le_refl _) (Nat.le_refl _) s h) (Nat.le_refl _) (Nat.le_refl _) s h) (Nat.le_refl _) (Nat.le_refl _) self t_self
def f_X1_either (self : Nat) (u : zM) : Option ((Unit ⊕ Nat) × zM) := b_X1_either (b_X1_both (f_X1_holds 10)) self u
theorem ct_X1_either (self : Nat) (t_self : kd self = 1) : zMetT yX1_either cX1_either 1 (none) (235 * 10 + 7 + 7) (6695 * 10 + 202 + 202) rvV (obT) [.ref self] (f_X1_either self) := cb_X1_either _ (fun s h => cb_X1_both _ (ct_X1_holds 10) (Nat.le_refl _) (Nat.le_refl _) s h) (Nat.le_refl _) (Nat.le_refl _) self t_self
def f_X4_init_L54 (x0 : Nat) (k84 : zM → Option (Unit × zM)) : Nat → Int32 → Int32 → zM → Option (Unit × zM)
  | 0, _, _, _ => none
  | n + 1, x5, x6, u => if x6 < 0 then (k84 u) else (lt (mR u x0 2) fun r1 => oB r1 fun n3 => ix x6 (mN u n3) (lt (sI u n3 (xN x6) (x5 - x5 / 100 * 100)) fun u10 => f_X4_init_L54 x0 k84 n (x5 / 100) (x6 + (-1)) u10))
section
variable {c0 s0 : Nat} {tbv : List ExceptionTableEntry}
set_option maxHeartbeats 4000000 in
theorem g_X4_init_L54 (x0 : Nat) (k84 : zM → Option (Unit × zM)) (t_x0 : kd x0 = 4) (hk84 : ∀ (u : zM), Go RX4 cX4_init 7 (none) true 1 20 [] (obT) (zQ rvV) c0 s0 84 [(0, .ref x0)] [] [] u (k84 u)) : ∀ (n : Nat) (x5 : Int32) (x6 : Int32) (u : zM), Go RX4 cX4_init 7 (none) true 1 20 [] (obT) (zQ rvV) c0 s0 54 [(0, .ref x0), (5, .int x5), (6, .int x6)] [] [] u (f_X4_init_L54 x0 k84 n x5 x6 u) := by
  intro n
  induction n with
  | zero => intros; exact go_none
  | succ n ih =>
    intro x5 x6 u
    unfold f_X4_init_L54
    refine go_iload (pc := 54) (i := 6) dX4_init_54 rfl ?_
    refine go_if_lt (pc := 56) (tgt := 84) dX4_init_56 (by decide) (fun h1 => ?_) (fun h1 => ?_)
    · exact go_weak (A' := [(0, .ref x0)]) (B' := []) ⟨rfl, trivial⟩ rfl (fun q h => by cases h) (hk84 u)
    · refine go_aload_n (pc := 59) (j := 0) (i := 0) dX4_init_59 rfl rfl ?_
      refine go_getR (pc := 60) (n := x0) (ci := 4) (k := 2) (t := 13) fa_X4_9_4 t_x0 rfl dX4_init_60 fun r1 t_r1 => ?_
      refine go_iload (pc := 63) (i := 6) dX4_init_63 rfl ?_
      refine go_iload (pc := 65) (i := 5) dX4_init_65 rfl ?_
      refine go_bipush (pc := 67) (v := 100) dX4_init_67 (by decide) ?_
      refine go_irem (pc := 69) dX4_init_69 (by decide) ?_
      refine go_oB fun n3 e_n3 => ?_
      have t_n3 := t_r1 n3 e_n3
      subst e_n3
      refine go_iast (pc := 70) t_n3 dX4_init_70 fun u10 => ?_
      refine go_iload (pc := 71) (i := 5) dX4_init_71 rfl ?_
      refine go_bipush (pc := 73) (v := 100) dX4_init_73 (by decide) ?_
      refine go_idiv (pc := 75) dX4_init_75 (by decide) ?_
      refine go_istore (pc := 76) (i := 5) (A' := [(0, .ref x0), (5, .int (x5 / 100)), (6, .int x6)]) (by decide) rfl rfl rfl dX4_init_76 ?_
      refine go_iinc (pc := 78) (i := 6) (w := (-1)) (A' := [(0, .ref x0), (5, .int (x5 / 100)), (6, .int (x6 + (-1)))]) rfl (by decide) (by decide) rfl rfl rfl dX4_init_78 ?_
      refine go_goto (pc := 81) (tgt := 54) dX4_init_81 (by decide) ?_
      exact go_weak (A' := [(0, .ref x0), (5, .int (x5 / 100)), (6, .int (x6 + (-1)))]) (B' := []) ⟨rfl, rfl, rfl, trivial⟩ rfl (fun q h => by cases h) (ih (x5 / 100) (x6 + (-1)) u10)
end
def f_X4_init_L87 (x0 : Nat) : Nat → Int32 → zM → Option (Unit × zM)
  | 0, _, _ => none
  | n + 1, x6, u => if 156 < x6 then (some ((), u)) else (lt (mR u x0 3) fun r2 => oB r2 fun n4 => ix x6 (mN u n4) (lt (sI u n4 (xN x6) 10) fun u12 => f_X4_init_L87 x0 n (x6 + 1) u12))
section
variable {c0 s0 : Nat} {tbv : List ExceptionTableEntry}
set_option maxHeartbeats 4000000 in
theorem g_X4_init_L87 (x0 : Nat) (t_x0 : kd x0 = 4) : ∀ (n : Nat) (x6 : Int32) (u : zM), Go RX4 cX4_init 7 (none) true 1 20 [] (obT) (zQ rvV) c0 s0 87 [(0, .ref x0), (6, .int x6)] [] [] u (f_X4_init_L87 x0 n x6 u) := by
  intro n
  induction n with
  | zero => intros; exact go_none
  | succ n ih =>
    intro x6 u
    unfold f_X4_init_L87
    refine go_iload (pc := 87) (i := 6) dX4_init_87 rfl ?_
    refine go_sipush (pc := 89) (v := 156) dX4_init_89 (by decide) ?_
    refine go_icmp_gt (pc := 92) (tgt := 110) dX4_init_92 (by decide) (fun h2 => ?_) (fun h2 => ?_)
    · exact go_vreturn (pc := 110) rfl dX4_init_110
    · refine go_aload_n (pc := 95) (j := 0) (i := 0) dX4_init_95 rfl rfl ?_
      refine go_getR (pc := 96) (n := x0) (ci := 4) (k := 3) (t := 13) fa_X4_15_4 t_x0 rfl dX4_init_96 fun r2 t_r2 => ?_
      refine go_iload (pc := 99) (i := 6) dX4_init_99 rfl ?_
      refine go_bipush (pc := 101) (v := 10) dX4_init_101 (by decide) ?_
      refine go_oB fun n4 e_n4 => ?_
      have t_n4 := t_r2 n4 e_n4
      subst e_n4
      refine go_iast (pc := 103) t_n4 dX4_init_103 fun u12 => ?_
      refine go_iinc (pc := 104) (i := 6) (w := 1) (A' := [(0, .ref x0), (6, .int (x6 + 1))]) rfl (by decide) (by decide) rfl rfl rfl dX4_init_104 ?_
      refine go_goto (pc := 107) (tgt := 87) dX4_init_107 (by decide) ?_
      exact go_weak (A' := [(0, .ref x0), (6, .int (x6 + 1))]) (B' := []) ⟨rfl, rfl, trivial⟩ rfl (fun q h => by cases h) (ih (x6 + 1) u12)
end
def f_X4_init (self : Nat) (p0 : Int32) (p1 : Int32) (p2 : Int32) (p3 : Int32) (u : zM) : Option (Unit × zM) := gs 4 (lt (nx u 13) fun n1 => lt (mkc u 13 (xN 4) (xN 4)) fun u1 => lt (sR u1 self 2 (some n1)) fun u2 => gs 157 (lt (nx u2 45) fun n2 => lt (mkc u2 45 (xN 157) (xN 157)) fun u3 => lt (sR u3 self 3 (some n2)) fun u4 => lt (sI u4 self 8 20) fun u5 => lt (sI u5 self 9 10) fun u6 => lt (sI u6 self 0 p0) fun u7 => lt (sI u7 self 1 p2) fun u8 => lt (sI u8 self 4 p3) fun u9 => f_X4_init_L54 self (fun u11 => f_X4_init_L87 self zFu 0 u11) zFu p1 3 u9))
set_option maxHeartbeats 4000000 in
theorem ct_X4_init (self : Nat) (p0 : Int32) (p1 : Int32) (p2 : Int32) (p3 : Int32) (t_self : kd self = 4) : zMet yX4_init cX4_init 7 (none) 1 20 rvV (obT) [.ref self, .int p0, .int p1, .int p2, .int p3] (f_X4_init self p0 p1 p2 p3) := by
  refine zMet_of (A := [(0, .ref self), (1, .int p0), (2, .int p1), (3, .int p2), (4, .int p3)]) (B := []) (ini := true) RX4 rfl (by decide +kernel) (fun _ => rfl) (by simp [lg_sl, Value.category]) (by simp [lv_args, Value.category]) rfl (by simp [lv_args, Value.category]) fun u => ?_
  unfold f_X4_init
  refine go_aload_n (pc := 0) (j := 0) (i := 0) dX4_init_0 rfl rfl ?_
  refine go_objInit (pc := 1) q337 q124 q125 (by decide) (by decide) dX4_init_1 ?_
  refine go_aload_n (pc := 4) (j := 0) (i := 0) dX4_init_4 rfl rfl ?_
  refine go_iconst (pc := 5) (v := 4) dX4_init_5 (by decide) ?_
  refine go_newa_int (pc := 6) (σ := 13) (by decide) (by decide) dX4_init_6 fun n1 u1 t_n1 => ?_
  refine go_putR (pc := 8) (n := self) (ci := 4) (k := 2) (t := 13) (r := some n1) pa_X4_9_4 (fun _ => rfl) t_self rfl (Or.inr ⟨_, rfl⟩) (fun n h => by cases h; exact t_n1) dX4_init_8 fun u2 => ?_
  refine go_aload_n (pc := 11) (j := 0) (i := 0) dX4_init_11 rfl rfl ?_
  refine go_sipush (pc := 12) (v := 157) dX4_init_12 (by decide) ?_
  refine go_newa_int (pc := 15) (σ := 45) (by decide) (by decide) dX4_init_15 fun n2 u3 t_n2 => ?_
  refine go_putR (pc := 17) (n := self) (ci := 4) (k := 3) (t := 13) (r := some n2) pa_X4_15_4 (fun _ => rfl) t_self rfl (Or.inr ⟨_, rfl⟩) (fun n h => by cases h; exact t_n2) dX4_init_17 fun u4 => ?_
  refine go_aload_n (pc := 20) (j := 0) (i := 0) dX4_init_20 rfl rfl ?_
  refine go_bipush (pc := 21) (v := 20) dX4_init_21 (by decide) ?_
  refine go_putI (pc := 23) (n := self) (ci := 4) (k := 8) (v := 20) pa_X4_18_4 (fun h => by cases h) t_self rfl zKeep_int dX4_init_23 fun u5 => ?_
  refine go_aload_n (pc := 26) (j := 0) (i := 0) dX4_init_26 rfl rfl ?_
  refine go_bipush (pc := 27) (v := 10) dX4_init_27 (by decide) ?_
  refine go_putI (pc := 29) (n := self) (ci := 4) (k := 9) (v := 10) pa_X4_22_4 (fun h => by cases h) t_self rfl zKeep_int dX4_init_29 fun u6 => ?_
  refine go_aload_n (pc := 32) (j := 0) (i := 0) dX4_init_32 rfl rfl ?_
  refine go_iload_n (pc := 33) (j := 1) (i := 1) dX4_init_33 rfl rfl ?_
  refine go_putI (pc := 34) (n := self) (ci := 4) (k := 0) (v := p0) pa_X4_25_4 (fun _ => rfl) t_self rfl zKeep_int dX4_init_34 fun u7 => ?_
  refine go_aload_n (pc := 37) (j := 0) (i := 0) dX4_init_37 rfl rfl ?_
  refine go_iload_n (pc := 38) (j := 3) (i := 3) dX4_init_38 rfl rfl ?_
  refine go_putI (pc := 39) (n := self) (ci := 4) (k := 1) (v := p2) pa_X4_28_4 (fun _ => rfl) t_self rfl zKeep_int dX4_init_39 fun u8 => ?_
  refine go_aload_n (pc := 42) (j := 0) (i := 0) dX4_init_42 rfl rfl ?_
  refine go_iload (pc := 43) (i := 4) dX4_init_43 rfl ?_
  refine go_putI (pc := 45) (n := self) (ci := 4) (k := 4) (v := p3) pa_X4_31_4 (fun h => by cases h) t_self rfl zKeep_int dX4_init_45 fun u9 => ?_
  refine go_iload_n (pc := 48) (j := 2) (i := 2) dX4_init_48 rfl rfl ?_
  refine go_istore (pc := 49) (i := 5) (A' := [(0, .ref self), (1, .int p0), (2, .int p1), (3, .int p2), (4, .int p3), (5, .int p1)]) (by decide) rfl rfl rfl dX4_init_49 ?_
  refine go_iconst (pc := 51) (v := 3) dX4_init_51 (by decide) ?_
  refine go_istore (pc := 52) (i := 6) (A' := [(0, .ref self), (1, .int p0), (2, .int p1), (3, .int p2), (4, .int p3), (5, .int p1), (6, .int 3)]) (by decide) rfl rfl rfl dX4_init_52 ?_
  refine go_weak (A' := [(0, .ref self), (5, .int p1), (6, .int 3)]) (B' := []) ⟨rfl, rfl, rfl, trivial⟩ rfl (fun q h => by cases h) (g_X4_init_L54 self _ t_self ?_ zFu p1 3 u9)
  · intro u11
    refine go_iconst (pc := 84) (v := 0) dX4_init_84 (by decide) ?_
    refine go_istore (pc := 85) (i := 6) (A' := [(0, .ref self), (6, .int 0)]) (by decide) rfl rfl rfl dX4_init_85 ?_
    exact go_weak (A' := [(0, .ref self), (6, .int 0)]) (B' := []) ⟨rfl, rfl, trivial⟩ rfl (fun q h => by cases h) (g_X4_init_L87 self t_self zFu 0 u11)

def f_X4_hasHand (self : Nat) (u : zM) : Option (Int32 × zM) := if ((mI u self 5) + (mI u self 6)) ≤ 0 then (gb 0 (some (0, u))) else (gb 1 (some (1, u)))
set_option maxHeartbeats 4000000 in
theorem ct_X4_hasHand (self : Nat) (t_self : kd self = 4) : zMet yX4_hasHand cX4_hasHand 1 (some .boolean) 1 0 rvI (obT) [.ref self] (f_X4_hasHand self) := by
  refine zMet_of (A := [(0, .ref self)]) (B := []) (ini := false) RX4 rfl (by decide +kernel) (fun h => by cases h) (by simp [lg_sl, Value.category]) (by simp [lv_args, Value.category]) rfl (by simp [lv_args, Value.category]) fun u => ?_
  unfold f_X4_hasHand
  refine go_aload_n (pc := 0) (j := 0) (i := 0) dX4_hasHand_0 rfl rfl ?_
  refine go_getI (pc := 1) (n := self) (ci := 4) (k := 5) fa_X4_34_4 t_self rfl dX4_hasHand_1 ?_
  refine go_aload_n (pc := 4) (j := 0) (i := 0) dX4_hasHand_4 rfl rfl ?_
  refine go_getI (pc := 5) (n := self) (ci := 4) (k := 6) fa_X4_37_4 t_self rfl dX4_hasHand_5 ?_
  refine go_iadd (pc := 8) dX4_hasHand_8 ?_
  refine go_if_le (pc := 9) (tgt := 16) dX4_hasHand_9 (by decide) (fun h1 => ?_) (fun h1 => ?_)
  · refine go_iconst (pc := 16) (v := 0) dX4_hasHand_16 (by decide) ?_
    exact go_zreturn (pc := 17) rfl dX4_hasHand_17
  · refine go_iconst (pc := 12) (v := 1) dX4_hasHand_12 (by decide) ?_
    refine go_goto (pc := 13) (tgt := 17) dX4_hasHand_13 (by decide) ?_
    exact go_zreturn (pc := 17) rfl dX4_hasHand_17

def f_X4_sellsHand (self : Nat) (u : zM) : Option (Unit × zM) := if (mI u self 5) ≤ 0 then (lt (sI u self 6 ((mI u self 6) - 1)) fun u1 => lt (sI u1 self 12 ((mI u1 self 12) + (mI u1 self 8))) fun u2 => some ((), u2)) else (lt (sI u self 5 ((mI u self 5) - 1)) fun u3 => lt (sI u3 self 15 ((mI u3 self 15) + 1)) fun u4 => lt (sI u4 self 12 ((mI u4 self 12) + (mI u4 self 8))) fun u5 => some ((), u5))
set_option maxHeartbeats 4000000 in
theorem ct_X4_sellsHand (self : Nat) (t_self : kd self = 4) : zMet yX4_sellsHand cX4_sellsHand 1 (none) 1 0 rvV (obT) [.ref self] (f_X4_sellsHand self) := by
  refine zMet_of (A := [(0, .ref self)]) (B := []) (ini := false) RX4 rfl (by decide +kernel) (fun h => by cases h) (by simp [lg_sl, Value.category]) (by simp [lv_args, Value.category]) rfl (by simp [lv_args, Value.category]) fun u => ?_
  unfold f_X4_sellsHand
  refine go_aload_n (pc := 0) (j := 0) (i := 0) dX4_sellsHand_0 rfl rfl ?_
  refine go_getI (pc := 1) (n := self) (ci := 4) (k := 5) fa_X4_34_4 t_self rfl dX4_sellsHand_1 ?_
  refine go_if_le (pc := 4) (tgt := 30) dX4_sellsHand_4 (by decide) (fun h1 => ?_) (fun h1 => ?_)
  · refine go_aload_n (pc := 30) (j := 0) (i := 0) dX4_sellsHand_30 rfl rfl ?_
    refine go_dupA (pc := 31) dX4_sellsHand_31 ?_
    refine go_getI (pc := 32) (n := self) (ci := 4) (k := 6) fa_X4_37_4 t_self rfl dX4_sellsHand_32 ?_
    refine go_iconst (pc := 35) (v := 1) dX4_sellsHand_35 (by decide) ?_
    refine go_isub (pc := 36) dX4_sellsHand_36 ?_
    refine go_putI (pc := 37) (n := self) (ci := 4) (k := 6) (v := ((mI u self 6) - 1)) pa_X4_37_4 (fun h => by cases h) t_self rfl zKeep_int dX4_sellsHand_37 fun u1 => ?_
    refine go_aload_n (pc := 40) (j := 0) (i := 0) dX4_sellsHand_40 rfl rfl ?_
    refine go_dupA (pc := 41) dX4_sellsHand_41 ?_
    refine go_getI (pc := 42) (n := self) (ci := 4) (k := 12) fa_X4_43_4 t_self rfl dX4_sellsHand_42 ?_
    refine go_aload_n (pc := 45) (j := 0) (i := 0) dX4_sellsHand_45 rfl rfl ?_
    refine go_getI (pc := 46) (n := self) (ci := 4) (k := 8) fa_X4_18_4 t_self rfl dX4_sellsHand_46 ?_
    refine go_iadd (pc := 49) dX4_sellsHand_49 ?_
    refine go_putI (pc := 50) (n := self) (ci := 4) (k := 12) (v := ((mI u1 self 12) + (mI u1 self 8))) pa_X4_43_4 (fun h => by cases h) t_self rfl zKeep_int dX4_sellsHand_50 fun u2 => ?_
    exact go_vreturn (pc := 53) rfl dX4_sellsHand_53
  · refine go_aload_n (pc := 7) (j := 0) (i := 0) dX4_sellsHand_7 rfl rfl ?_
    refine go_dupA (pc := 8) dX4_sellsHand_8 ?_
    refine go_getI (pc := 9) (n := self) (ci := 4) (k := 5) fa_X4_34_4 t_self rfl dX4_sellsHand_9 ?_
    refine go_iconst (pc := 12) (v := 1) dX4_sellsHand_12 (by decide) ?_
    refine go_isub (pc := 13) dX4_sellsHand_13 ?_
    refine go_putI (pc := 14) (n := self) (ci := 4) (k := 5) (v := ((mI u self 5) - 1)) pa_X4_34_4 (fun h => by cases h) t_self rfl zKeep_int dX4_sellsHand_14 fun u3 => ?_
    refine go_aload_n (pc := 17) (j := 0) (i := 0) dX4_sellsHand_17 rfl rfl ?_
    refine go_dupA (pc := 18) dX4_sellsHand_18 ?_
    refine go_getI (pc := 19) (n := self) (ci := 4) (k := 15) fa_X4_40_4 t_self rfl dX4_sellsHand_19 ?_
    refine go_iconst (pc := 22) (v := 1) dX4_sellsHand_22 (by decide) ?_
    refine go_iadd (pc := 23) dX4_sellsHand_23 ?_
    refine go_putI (pc := 24) (n := self) (ci := 4) (k := 15) (v := ((mI u3 self 15) + 1)) pa_X4_40_4 (fun h => by cases h) t_self rfl zKeep_int dX4_sellsHand_24 fun u4 => ?_
    refine go_goto (pc := 27) (tgt := 40) dX4_sellsHand_27 (by decide) ?_
    refine go_aload_n (pc := 40) (j := 0) (i := 0) dX4_sellsHand_40 rfl rfl ?_
    refine go_dupA (pc := 41) dX4_sellsHand_41 ?_
    refine go_getI (pc := 42) (n := self) (ci := 4) (k := 12) fa_X4_43_4 t_self rfl dX4_sellsHand_42 ?_
    refine go_aload_n (pc := 45) (j := 0) (i := 0) dX4_sellsHand_45 rfl rfl ?_
    refine go_getI (pc := 46) (n := self) (ci := 4) (k := 8) fa_X4_18_4 t_self rfl dX4_sellsHand_46 ?_
    refine go_iadd (pc := 49) dX4_sellsHand_49 ?_
    refine go_putI (pc := 50) (n := self) (ci := 4) (k := 12) (v := ((mI u4 self 12) + (mI u4 self 8))) pa_X4_43_4 (fun h => by cases h) t_self rfl zKeep_int dX4_sellsHand_50 fun u5 => ?_
    exact go_vreturn (pc := 53) rfl dX4_sellsHand_53

def f_X4_sellsMill (self : Nat) (u : zM) : Option (Unit × zM) := lt (sI u self 7 ((mI u self 7) - 1)) fun u1 => lt (sI u1 self 16 ((mI u1 self 16) + 1)) fun u2 => lt (sI u2 self 12 ((mI u2 self 12) + (mI u2 self 9))) fun u3 => some ((), u3)
set_option maxHeartbeats 4000000 in
theorem ct_X4_sellsMill (self : Nat) (t_self : kd self = 4) : zMet yX4_sellsMill cX4_sellsMill 1 (none) 1 0 rvV (obT) [.ref self] (f_X4_sellsMill self) := by
  refine zMet_of (A := [(0, .ref self)]) (B := []) (ini := false) RX4 rfl (by decide +kernel) (fun h => by cases h) (by simp [lg_sl, Value.category]) (by simp [lv_args, Value.category]) rfl (by simp [lv_args, Value.category]) fun u => ?_
  unfold f_X4_sellsMill
  refine go_aload_n (pc := 0) (j := 0) (i := 0) dX4_sellsMill_0 rfl rfl ?_
  refine go_dupA (pc := 1) dX4_sellsMill_1 ?_
  refine go_getI (pc := 2) (n := self) (ci := 4) (k := 7) fa_X4_46_4 t_self rfl dX4_sellsMill_2 ?_
  refine go_iconst (pc := 5) (v := 1) dX4_sellsMill_5 (by decide) ?_
  refine go_isub (pc := 6) dX4_sellsMill_6 ?_
  refine go_putI (pc := 7) (n := self) (ci := 4) (k := 7) (v := ((mI u self 7) - 1)) pa_X4_46_4 (fun h => by cases h) t_self rfl zKeep_int dX4_sellsMill_7 fun u1 => ?_
  refine go_aload_n (pc := 10) (j := 0) (i := 0) dX4_sellsMill_10 rfl rfl ?_
  refine go_dupA (pc := 11) dX4_sellsMill_11 ?_
  refine go_getI (pc := 12) (n := self) (ci := 4) (k := 16) fa_X4_49_4 t_self rfl dX4_sellsMill_12 ?_
  refine go_iconst (pc := 15) (v := 1) dX4_sellsMill_15 (by decide) ?_
  refine go_iadd (pc := 16) dX4_sellsMill_16 ?_
  refine go_putI (pc := 17) (n := self) (ci := 4) (k := 16) (v := ((mI u1 self 16) + 1)) pa_X4_49_4 (fun h => by cases h) t_self rfl zKeep_int dX4_sellsMill_17 fun u2 => ?_
  refine go_aload_n (pc := 20) (j := 0) (i := 0) dX4_sellsMill_20 rfl rfl ?_
  refine go_dupA (pc := 21) dX4_sellsMill_21 ?_
  refine go_getI (pc := 22) (n := self) (ci := 4) (k := 12) fa_X4_43_4 t_self rfl dX4_sellsMill_22 ?_
  refine go_aload_n (pc := 25) (j := 0) (i := 0) dX4_sellsMill_25 rfl rfl ?_
  refine go_getI (pc := 26) (n := self) (ci := 4) (k := 9) fa_X4_22_4 t_self rfl dX4_sellsMill_26 ?_
  refine go_iadd (pc := 29) dX4_sellsMill_29 ?_
  refine go_putI (pc := 30) (n := self) (ci := 4) (k := 12) (v := ((mI u2 self 12) + (mI u2 self 9))) pa_X4_43_4 (fun h => by cases h) t_self rfl zKeep_int dX4_sellsMill_30 fun u3 => ?_
  exact go_vreturn (pc := 33) rfl dX4_sellsMill_33

def f_X4_answers (self : Nat) (u : zM) : Option (Unit × zM) := if (mI u self 17) ≤ (mI u self 16) then (lt (sI u self 9 (if ((mI u self 9) + 1) < 99 then ((mI u self 9) + 1) else 99)) fun u1 => lt (sI u1 self 17 (mI u1 self 16)) fun u2 => lt (sI u2 self 16 0) fun u3 => some ((), u3)) else (lt (sI u self 9 (if 1 < ((mI u self 9) - 1) then ((mI u self 9) - 1) else 1)) fun u4 => lt (sI u4 self 17 (mI u4 self 16)) fun u5 => lt (sI u5 self 16 0) fun u6 => some ((), u6))
set_option maxHeartbeats 4000000 in
theorem ct_X4_answers (self : Nat) (t_self : kd self = 4) : zMet yX4_answers cX4_answers 1 (none) 1 40 rvV (obT) [.ref self] (f_X4_answers self) := by
  refine zMet_of (A := [(0, .ref self)]) (B := []) (ini := false) RX4 rfl (by decide +kernel) (fun h => by cases h) (by simp [lg_sl, Value.category]) (by simp [lv_args, Value.category]) rfl (by simp [lv_args, Value.category]) fun u => ?_
  unfold f_X4_answers
  refine go_aload_n (pc := 0) (j := 0) (i := 0) dX4_answers_0 rfl rfl ?_
  refine go_aload_n (pc := 1) (j := 0) (i := 0) dX4_answers_1 rfl rfl ?_
  refine go_getI (pc := 2) (n := self) (ci := 4) (k := 16) fa_X4_49_4 t_self rfl dX4_answers_2 ?_
  refine go_aload_n (pc := 5) (j := 0) (i := 0) dX4_answers_5 rfl rfl ?_
  refine go_getI (pc := 6) (n := self) (ci := 4) (k := 17) fa_X4_52_4 t_self rfl dX4_answers_6 ?_
  refine go_icmp_ge (pc := 9) (tgt := 25) dX4_answers_9 (by decide) (fun h1 => ?_) (fun h1 => ?_)
  · refine go_bipush (pc := 25) (v := 99) dX4_answers_25 (by decide) ?_
    refine go_aload_n (pc := 27) (j := 0) (i := 0) dX4_answers_27 rfl rfl ?_
    refine go_getI (pc := 28) (n := self) (ci := 4) (k := 9) fa_X4_22_4 t_self rfl dX4_answers_28 ?_
    refine go_iconst (pc := 31) (v := 1) dX4_answers_31 (by decide) ?_
    refine go_iadd (pc := 32) dX4_answers_32 ?_
    refine go_mminI (pc := 33) dX4_answers_33 q702 q569 q102 q570 (by decide) (Nat.le_of_ble_eq_true rfl) ?_
    refine go_putI (pc := 36) (n := self) (ci := 4) (k := 9) (v := (if ((mI u self 9) + 1) < 99 then ((mI u self 9) + 1) else 99)) pa_X4_22_4 (fun h => by cases h) t_self rfl zKeep_int dX4_answers_36 fun u1 => ?_
    refine go_aload_n (pc := 39) (j := 0) (i := 0) dX4_answers_39 rfl rfl ?_
    refine go_aload_n (pc := 40) (j := 0) (i := 0) dX4_answers_40 rfl rfl ?_
    refine go_getI (pc := 41) (n := self) (ci := 4) (k := 16) fa_X4_49_4 t_self rfl dX4_answers_41 ?_
    refine go_putI (pc := 44) (n := self) (ci := 4) (k := 17) (v := (mI u1 self 16)) pa_X4_52_4 (fun h => by cases h) t_self rfl zKeep_int dX4_answers_44 fun u2 => ?_
    refine go_aload_n (pc := 47) (j := 0) (i := 0) dX4_answers_47 rfl rfl ?_
    refine go_iconst (pc := 48) (v := 0) dX4_answers_48 (by decide) ?_
    refine go_putI (pc := 49) (n := self) (ci := 4) (k := 16) (v := 0) pa_X4_49_4 (fun h => by cases h) t_self rfl zKeep_int dX4_answers_49 fun u3 => ?_
    exact go_vreturn (pc := 52) rfl dX4_answers_52
  · refine go_iconst (pc := 12) (v := 1) dX4_answers_12 (by decide) ?_
    refine go_aload_n (pc := 13) (j := 0) (i := 0) dX4_answers_13 rfl rfl ?_
    refine go_getI (pc := 14) (n := self) (ci := 4) (k := 9) fa_X4_22_4 t_self rfl dX4_answers_14 ?_
    refine go_iconst (pc := 17) (v := 1) dX4_answers_17 (by decide) ?_
    refine go_isub (pc := 18) dX4_answers_18 ?_
    refine go_mmaxI (pc := 19) dX4_answers_19 q701 q584 q102 q585 (by decide) (Nat.le_of_ble_eq_true rfl) ?_
    refine go_goto (pc := 22) (tgt := 36) dX4_answers_22 (by decide) ?_
    refine go_putI (pc := 36) (n := self) (ci := 4) (k := 9) (v := (if 1 < ((mI u self 9) - 1) then ((mI u self 9) - 1) else 1)) pa_X4_22_4 (fun h => by cases h) t_self rfl zKeep_int dX4_answers_36 fun u4 => ?_
    refine go_aload_n (pc := 39) (j := 0) (i := 0) dX4_answers_39 rfl rfl ?_
    refine go_aload_n (pc := 40) (j := 0) (i := 0) dX4_answers_40 rfl rfl ?_
    refine go_getI (pc := 41) (n := self) (ci := 4) (k := 16) fa_X4_49_4 t_self rfl dX4_answers_41 ?_
    refine go_putI (pc := 44) (n := self) (ci := 4) (k := 17) (v := (mI u4 self 16)) pa_X4_52_4 (fun h => by cases h) t_self rfl zKeep_int dX4_answers_44 fun u5 => ?_
    refine go_aload_n (pc := 47) (j := 0) (i := 0) dX4_answers_47 rfl rfl ?_
    refine go_iconst (pc := 48) (v := 0) dX4_answers_48 (by decide) ?_
    refine go_putI (pc := 49) (n := self) (ci := 4) (k := 16) (v := 0) pa_X4_49_4 (fun h => by cases h) t_self rfl zKeep_int dX4_answers_49 fun u6 => ?_
    exact go_vreturn (pc := 52) rfl dX4_answers_52

def f_X5_init (self : Nat) (p0 : Int32) (p1 : Nat) (p2 : Int32) (u : zM) : Option (Unit × zM) := lt (sI u self 7 10) fun u1 => lt (sI u1 self 0 p0) fun u2 => lt (sR u2 self 3 (some p1)) fun u3 => lt (sI u3 self 4 (p2 / 1000)) fun u4 => lt (sI u4 self 5 ((p2 / 100) - (p2 / 100) / 10 * 10)) fun u5 => lt (sI u5 self 1 ((p2 / 10) - (p2 / 10) / 10 * 10)) fun u6 => lt (sI u6 self 2 (p2 - p2 / 10 * 10)) fun u7 => some ((), u7)
set_option maxHeartbeats 4000000 in
theorem ct_X5_init (self : Nat) (p0 : Int32) (p1 : Nat) (p2 : Int32) (t_self : kd self = 5) (t_p1 : kd p1 = 4) : zMet yX5_init cX5_init 4 (none) 1 20 rvV (obT) [.ref self, .int p0, .ref p1, .int p2] (f_X5_init self p0 p1 p2) := by
  refine zMet_of (A := [(0, .ref self), (1, .int p0), (2, .ref p1), (3, .int p2)]) (B := []) (ini := true) RX5 rfl (by decide +kernel) (fun _ => rfl) (by simp [lg_sl, Value.category]) (by simp [lv_args, Value.category]) rfl (by simp [lv_args, Value.category]) fun u => ?_
  unfold f_X5_init
  refine go_aload_n (pc := 0) (j := 0) (i := 0) dX5_init_0 rfl rfl ?_
  refine go_objInit (pc := 1) q439 q124 q125 (by decide) (by decide) dX5_init_1 ?_
  refine go_aload_n (pc := 4) (j := 0) (i := 0) dX5_init_4 rfl rfl ?_
  refine go_bipush (pc := 5) (v := 10) dX5_init_5 (by decide) ?_
  refine go_putI (pc := 7) (n := self) (ci := 5) (k := 7) (v := 10) pa_X5_7_5 (fun h => by cases h) t_self rfl zKeep_int dX5_init_7 fun u1 => ?_
  refine go_aload_n (pc := 10) (j := 0) (i := 0) dX5_init_10 rfl rfl ?_
  refine go_iload_n (pc := 11) (j := 1) (i := 1) dX5_init_11 rfl rfl ?_
  refine go_putI (pc := 12) (n := self) (ci := 5) (k := 0) (v := p0) pa_X5_13_5 (fun _ => rfl) t_self rfl zKeep_int dX5_init_12 fun u2 => ?_
  refine go_aload_n (pc := 15) (j := 0) (i := 0) dX5_init_15 rfl rfl ?_
  refine go_aload_n (pc := 16) (j := 2) (i := 2) dX5_init_16 rfl rfl ?_
  refine go_putR (pc := 17) (n := self) (ci := 5) (k := 3) (t := 4) (r := some p1) pa_X5_16_5 (fun _ => rfl) t_self rfl (Or.inl ⟨_, rfl⟩) (fun n h => by cases h; exact t_p1) dX5_init_17 fun u3 => ?_
  refine go_aload_n (pc := 20) (j := 0) (i := 0) dX5_init_20 rfl rfl ?_
  refine go_iload_n (pc := 21) (j := 3) (i := 3) dX5_init_21 rfl rfl ?_
  refine go_sipush (pc := 22) (v := 1000) dX5_init_22 (by decide) ?_
  refine go_idiv (pc := 25) dX5_init_25 (by decide) ?_
  refine go_putI (pc := 26) (n := self) (ci := 5) (k := 4) (v := (p2 / 1000)) pa_X5_20_5 (fun h => by cases h) t_self rfl zKeep_int dX5_init_26 fun u4 => ?_
  refine go_aload_n (pc := 29) (j := 0) (i := 0) dX5_init_29 rfl rfl ?_
  refine go_iload_n (pc := 30) (j := 3) (i := 3) dX5_init_30 rfl rfl ?_
  refine go_bipush (pc := 31) (v := 100) dX5_init_31 (by decide) ?_
  refine go_idiv (pc := 33) dX5_init_33 (by decide) ?_
  refine go_bipush (pc := 34) (v := 10) dX5_init_34 (by decide) ?_
  refine go_irem (pc := 36) dX5_init_36 (by decide) ?_
  refine go_putI (pc := 37) (n := self) (ci := 5) (k := 5) (v := ((p2 / 100) - (p2 / 100) / 10 * 10)) pa_X5_23_5 (fun h => by cases h) t_self rfl zKeep_int dX5_init_37 fun u5 => ?_
  refine go_aload_n (pc := 40) (j := 0) (i := 0) dX5_init_40 rfl rfl ?_
  refine go_iload_n (pc := 41) (j := 3) (i := 3) dX5_init_41 rfl rfl ?_
  refine go_bipush (pc := 42) (v := 10) dX5_init_42 (by decide) ?_
  refine go_idiv (pc := 44) dX5_init_44 (by decide) ?_
  refine go_bipush (pc := 45) (v := 10) dX5_init_45 (by decide) ?_
  refine go_irem (pc := 47) dX5_init_47 (by decide) ?_
  refine go_putI (pc := 48) (n := self) (ci := 5) (k := 1) (v := ((p2 / 10) - (p2 / 10) / 10 * 10)) pa_X5_26_5 (fun _ => rfl) t_self rfl zKeep_int dX5_init_48 fun u6 => ?_
  refine go_aload_n (pc := 51) (j := 0) (i := 0) dX5_init_51 rfl rfl ?_
  refine go_iload_n (pc := 52) (j := 3) (i := 3) dX5_init_52 rfl rfl ?_
  refine go_bipush (pc := 53) (v := 10) dX5_init_53 (by decide) ?_
  refine go_irem (pc := 55) dX5_init_55 (by decide) ?_
  refine go_putI (pc := 56) (n := self) (ci := 5) (k := 2) (v := (p2 - p2 / 10 * 10)) pa_X5_29_5 (fun _ => rfl) t_self rfl zKeep_int dX5_init_56 fun u7 => ?_
  exact go_vreturn (pc := 59) rfl dX5_init_59

