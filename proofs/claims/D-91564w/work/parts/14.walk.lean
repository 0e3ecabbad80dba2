set_option maxRecDepth 100000
def f_X5_hours (self : Nat) (p0 : Int32) (u : zM) : Option (Int32 × zM) := lt (mR u self 3) fun r1 => oB r1 fun n1 => lt (mR u n1 2) fun r2 => bd (f_X0_seasonOf p0 u) fun v1 u1 => oB r2 fun n2 => ix v1 (mN u1 n2) (some (((mI u self 4) * (mI u1 n2 (xN v1))), u1))
set_option maxHeartbeats 4000000 in
theorem ct_X5_hours (self : Nat) (p0 : Int32) (t_self : kd self = 5) : zMet yX5_hours cX5_hours 2 (some .int) 2 20 rvI (obT) [.ref self, .int p0] (f_X5_hours self p0) := by
  refine zMet_of (A := [(0, .ref self), (1, .int p0)]) (B := []) (ini := false) RX5 rfl (by decide +kernel) (fun h => by cases h) (by simp [lg_sl, Value.category]) (by simp [lv_args, Value.category]) rfl (by simp [lv_args, Value.category]) fun u => ?_
  unfold f_X5_hours
  refine go_aload_n (pc := 0) (j := 0) (i := 0) dX5_hours_0 rfl rfl ?_
  refine go_getI (pc := 1) (n := self) (ci := 5) (k := 4) fa_X5_20_5 t_self rfl dX5_hours_1 ?_
  refine go_aload_n (pc := 4) (j := 0) (i := 0) dX5_hours_4 rfl rfl ?_
  refine go_getR (pc := 5) (n := self) (ci := 5) (k := 3) (t := 4) fa_X5_16_5 t_self rfl dX5_hours_5 fun r1 t_r1 => ?_
  refine go_oB fun n1 e_n1 => ?_
  have t_n1 := t_r1 n1 e_n1
  subst e_n1
  refine go_getR (pc := 8) (n := n1) (ci := 4) (k := 2) (t := 13) fa_X5_32_4 t_n1 rfl dX5_hours_8 fun r2 t_r2 => ?_
  refine go_iload_n (pc := 11) (j := 1) (i := 1) dX5_hours_11 rfl rfl ?_
  refine go_callSNI (pc := 12) (ct_X0_seasonOf p0) lk_X5_38 rfl ⟨by decide, by decide⟩ (by simp [cat_rf, cat_int, cat_ref, cat_long]) dX5_hours_12 rfl fun v1 u1 => ?_
  refine go_oB fun n2 e_n2 => ?_
  have t_n2 := t_r2 n2 e_n2
  subst e_n2
  refine go_iald (pc := 15) t_n2 dX5_hours_15 ?_
  refine go_imul (pc := 16) dX5_hours_16 ?_
  exact go_ireturn (pc := 17) rfl dX5_hours_17

def f_X5_strength (self : Nat) (u : zM) : Option (Int32 × zM) := lt (mR u self 3) fun r1 => oB r1 fun n1 => some ((if 0 < (((20 * (mI u n1 1)) + (3 * (mI u self 5))) - (2 * (mI u self 7))) then (((20 * (mI u n1 1)) + (3 * (mI u self 5))) - (2 * (mI u self 7))) else 0), u)
set_option maxHeartbeats 4000000 in
theorem ct_X5_strength (self : Nat) (t_self : kd self = 5) : zMet yX5_strength cX5_strength 1 (some .int) 1 40 rvI (obT) [.ref self] (f_X5_strength self) := by
  refine zMet_of (A := [(0, .ref self)]) (B := []) (ini := false) RX5 rfl (by decide +kernel) (fun h => by cases h) (by simp [lg_sl, Value.category]) (by simp [lv_args, Value.category]) rfl (by simp [lv_args, Value.category]) fun u => ?_
  unfold f_X5_strength
  refine go_iconst (pc := 0) (v := 0) dX5_strength_0 (by decide) ?_
  refine go_bipush (pc := 1) (v := 20) dX5_strength_1 (by decide) ?_
  refine go_aload_n (pc := 3) (j := 0) (i := 0) dX5_strength_3 rfl rfl ?_
  refine go_getR (pc := 4) (n := self) (ci := 5) (k := 3) (t := 4) fa_X5_16_5 t_self rfl dX5_strength_4 fun r1 t_r1 => ?_
  refine go_oB fun n1 e_n1 => ?_
  have t_n1 := t_r1 n1 e_n1
  subst e_n1
  refine go_getI (pc := 7) (n := n1) (ci := 4) (k := 1) fa_X5_44_4 t_n1 rfl dX5_strength_7 ?_
  refine go_imul (pc := 10) dX5_strength_10 ?_
  refine go_iconst (pc := 11) (v := 3) dX5_strength_11 (by decide) ?_
  refine go_aload_n (pc := 12) (j := 0) (i := 0) dX5_strength_12 rfl rfl ?_
  refine go_getI (pc := 13) (n := self) (ci := 5) (k := 5) fa_X5_23_5 t_self rfl dX5_strength_13 ?_
  refine go_imul (pc := 16) dX5_strength_16 ?_
  refine go_iadd (pc := 17) dX5_strength_17 ?_
  refine go_iconst (pc := 18) (v := 2) dX5_strength_18 (by decide) ?_
  refine go_aload_n (pc := 19) (j := 0) (i := 0) dX5_strength_19 rfl rfl ?_
  refine go_getI (pc := 20) (n := self) (ci := 5) (k := 7) fa_X5_7_5 t_self rfl dX5_strength_20 ?_
  refine go_imul (pc := 23) dX5_strength_23 ?_
  refine go_isub (pc := 24) dX5_strength_24 ?_
  refine go_mmaxI (pc := 25) dX5_strength_25 q583 q584 q102 q585 (by decide) (Nat.le_of_ble_eq_true rfl) ?_
  exact go_ireturn (pc := 28) rfl dX5_strength_28

def f_X5_needs (self : Nat) (p0 : Int32) (u : zM) : Option (Int32 × zM) := if ((p0 + (mI u self 2)) - (p0 + (mI u self 2)) / 4 * 4) = 0 then (gb 1 (some (1, u))) else (gb 0 (some (0, u)))
set_option maxHeartbeats 4000000 in
theorem ct_X5_needs (self : Nat) (p0 : Int32) (t_self : kd self = 5) : zMet yX5_needs cX5_needs 2 (some .boolean) 1 0 rvI (obT) [.ref self, .int p0] (f_X5_needs self p0) := by
  refine zMet_of (A := [(0, .ref self), (1, .int p0)]) (B := []) (ini := false) RX5 rfl (by decide +kernel) (fun h => by cases h) (by simp [lg_sl, Value.category]) (by simp [lv_args, Value.category]) rfl (by simp [lv_args, Value.category]) fun u => ?_
  unfold f_X5_needs
  refine go_iload_n (pc := 0) (j := 1) (i := 1) dX5_needs_0 rfl rfl ?_
  refine go_aload_n (pc := 1) (j := 0) (i := 0) dX5_needs_1 rfl rfl ?_
  refine go_getI (pc := 2) (n := self) (ci := 5) (k := 2) fa_X5_29_5 t_self rfl dX5_needs_2 ?_
  refine go_iadd (pc := 5) dX5_needs_5 ?_
  refine go_iconst (pc := 6) (v := 4) dX5_needs_6 (by decide) ?_
  refine go_irem (pc := 7) dX5_needs_7 (by decide) ?_
  refine go_if_ne (pc := 8) (tgt := 15) dX5_needs_8 (by decide) (fun h1 => ?_) (fun h1 => ?_)
  · refine go_iconst (pc := 11) (v := 1) dX5_needs_11 (by decide) ?_
    refine go_goto (pc := 12) (tgt := 16) dX5_needs_12 (by decide) ?_
    exact go_zreturn (pc := 16) rfl dX5_needs_16
  · refine go_iconst (pc := 15) (v := 0) dX5_needs_15 (by decide) ?_
    exact go_zreturn (pc := 16) rfl dX5_needs_16

def f_X6_init (self : Nat) (p0 : Int32) (p1 : Int32) (p2 : Int32) (u : zM) : Option (Unit × zM) := lt (sI u self 0 p0) fun u1 => lt (sI u1 self 1 p1) fun u2 => lt (sI u2 self 2 p2) fun u3 => some ((), u3)
set_option maxHeartbeats 4000000 in
theorem ct_X6_init (self : Nat) (p0 : Int32) (p1 : Int32) (p2 : Int32) (t_self : kd self = 6) : zMet yX6_init cX6_init 4 (none) 1 20 rvV (obT) [.ref self, .int p0, .int p1, .int p2] (f_X6_init self p0 p1 p2) := by
  refine zMet_of (A := [(0, .ref self), (1, .int p0), (2, .int p1), (3, .int p2)]) (B := []) (ini := true) RX6 rfl (by decide +kernel) (fun _ => rfl) (by simp [lg_sl, Value.category]) (by simp [lv_args, Value.category]) rfl (by simp [lv_args, Value.category]) fun u => ?_
  unfold f_X6_init
  refine go_aload_n (pc := 0) (j := 0) (i := 0) dX6_init_0 rfl rfl ?_
  refine go_objInit (pc := 1) q515 q124 q125 (by decide) (by decide) dX6_init_1 ?_
  refine go_aload_n (pc := 4) (j := 0) (i := 0) dX6_init_4 rfl rfl ?_
  refine go_iload_n (pc := 5) (j := 1) (i := 1) dX6_init_5 rfl rfl ?_
  refine go_putI (pc := 6) (n := self) (ci := 6) (k := 0) (v := p0) pa_X6_7_6 (fun _ => rfl) t_self rfl zKeep_int dX6_init_6 fun u1 => ?_
  refine go_aload_n (pc := 9) (j := 0) (i := 0) dX6_init_9 rfl rfl ?_
  refine go_iload_n (pc := 10) (j := 2) (i := 2) dX6_init_10 rfl rfl ?_
  refine go_putI (pc := 11) (n := self) (ci := 6) (k := 1) (v := p1) pa_X6_13_6 (fun _ => rfl) t_self rfl zKeep_int dX6_init_11 fun u2 => ?_
  refine go_aload_n (pc := 14) (j := 0) (i := 0) dX6_init_14 rfl rfl ?_
  refine go_iload_n (pc := 15) (j := 3) (i := 3) dX6_init_15 rfl rfl ?_
  refine go_putI (pc := 16) (n := self) (ci := 6) (k := 2) (v := p2) pa_X6_16_6 (fun _ => rfl) t_self rfl zKeep_int dX6_init_16 fun u3 => ?_
  exact go_vreturn (pc := 19) rfl dX6_init_19

def f_X7_init_8 (self : Nat) (p0 : Nat) (p1 : Int32) (u : zM) : Option (Unit × zM) := lt (sR u self 0 (some p0)) fun u1 => lt (sI u1 self 1 p1) fun u2 => some ((), u2)
set_option maxHeartbeats 4000000 in
theorem ct_X7_init_8 (self : Nat) (p0 : Nat) (p1 : Int32) (t_self : kd self = 8) (t_p0 : kd p0 = 5) : zMet yX7_init cX7_init 3 (none) 1 20 rvV (obT) [.ref self, .ref p0, .int p1] (f_X7_init_8 self p0 p1) := by
  refine zMet_of (A := [(0, .ref self), (1, .ref p0), (2, .int p1)]) (B := []) (ini := true) RX7 rfl (by decide +kernel) (fun _ => rfl) (by simp [lg_sl, Value.category]) (by simp [lv_args, Value.category]) rfl (by simp [lv_args, Value.category]) fun u => ?_
  unfold f_X7_init_8
  refine go_aload_n (pc := 0) (j := 0) (i := 0) dX7_init_0 rfl rfl ?_
  refine go_objInit (pc := 1) q578 q124 q125 (by decide) (by decide) dX7_init_1 ?_
  refine go_aload_n (pc := 4) (j := 0) (i := 0) dX7_init_4 rfl rfl ?_
  refine go_aload_n (pc := 5) (j := 1) (i := 1) dX7_init_5 rfl rfl ?_
  refine go_putR (pc := 6) (n := self) (ci := 8) (k := 0) (t := 5) (r := some p0) pa_X7_7_8 (fun _ => rfl) t_self rfl (Or.inl ⟨_, rfl⟩) (fun n h => by cases h; exact t_p0) dX7_init_6 fun u1 => ?_
  refine go_aload_n (pc := 9) (j := 0) (i := 0) dX7_init_9 rfl rfl ?_
  refine go_iload_n (pc := 10) (j := 2) (i := 2) dX7_init_10 rfl rfl ?_
  refine go_putI (pc := 11) (n := self) (ci := 8) (k := 1) (v := p1) pa_X7_13_8 (fun _ => rfl) t_self rfl zKeep_int dX7_init_11 fun u2 => ?_
  exact go_vreturn (pc := 14) rfl dX7_init_14

def f_X7_init_12 (self : Nat) (p0 : Nat) (p1 : Int32) (u : zM) : Option (Unit × zM) := lt (sR u self 0 (some p0)) fun u1 => lt (sI u1 self 1 p1) fun u2 => some ((), u2)
set_option maxHeartbeats 4000000 in
theorem ct_X7_init_12 (self : Nat) (p0 : Nat) (p1 : Int32) (t_self : kd self = 12) (t_p0 : kd p0 = 5) : zMet yX7_init cX7_init 3 (none) 1 20 rvV (obT) [.ref self, .ref p0, .int p1] (f_X7_init_12 self p0 p1) := by
  refine zMet_of (A := [(0, .ref self), (1, .ref p0), (2, .int p1)]) (B := []) (ini := true) RX7 rfl (by decide +kernel) (fun _ => rfl) (by simp [lg_sl, Value.category]) (by simp [lv_args, Value.category]) rfl (by simp [lv_args, Value.category]) fun u => ?_
  unfold f_X7_init_12
  refine go_aload_n (pc := 0) (j := 0) (i := 0) dX7_init_0 rfl rfl ?_
  refine go_objInit (pc := 1) q578 q124 q125 (by decide) (by decide) dX7_init_1 ?_
  refine go_aload_n (pc := 4) (j := 0) (i := 0) dX7_init_4 rfl rfl ?_
  refine go_aload_n (pc := 5) (j := 1) (i := 1) dX7_init_5 rfl rfl ?_
  refine go_putR (pc := 6) (n := self) (ci := 12) (k := 0) (t := 5) (r := some p0) pa_X7_7_12 (fun _ => rfl) t_self rfl (Or.inl ⟨_, rfl⟩) (fun n h => by cases h; exact t_p0) dX7_init_6 fun u1 => ?_
  refine go_aload_n (pc := 9) (j := 0) (i := 0) dX7_init_9 rfl rfl ?_
  refine go_iload_n (pc := 10) (j := 2) (i := 2) dX7_init_10 rfl rfl ?_
  refine go_putI (pc := 11) (n := self) (ci := 12) (k := 1) (v := p1) pa_X7_13_12 (fun _ => rfl) t_self rfl zKeep_int dX7_init_11 fun u2 => ?_
  exact go_vreturn (pc := 14) rfl dX7_init_14

def f_X8_init (self : Nat) (p0 : Int32) (p1 : Nat) (p2 : Int32) (p3 : Int32) (u : zM) : Option (Unit × zM) := bd (f_X7_init_8 self p1 p2 u) fun v1 u1 => lt (sI u1 self 2 p0) fun u2 => lt (sI u2 self 5 p3) fun u3 => lt (sI u3 self 3 (mI u3 p1 7)) fun u4 => bd (f_X5_strength p1 u4) fun v2 u5 => lt (sI u5 self 4 v2) fun u6 => lt (sI u6 self 6 p3) fun u7 => some ((), u7)
set_option maxHeartbeats 4000000 in
theorem ct_X8_init (self : Nat) (p0 : Int32) (p1 : Nat) (p2 : Int32) (p3 : Int32) (t_self : kd self = 8) (t_p1 : kd p1 = 5) : zMet yX8_init cX8_init 5 (none) 2 60 rvV (obT) [.ref self, .int p0, .ref p1, .int p2, .int p3] (f_X8_init self p0 p1 p2 p3) := by
  refine zMet_of (A := [(0, .ref self), (1, .int p0), (2, .ref p1), (3, .int p2), (4, .int p3)]) (B := []) (ini := true) RX8 rfl (by decide +kernel) (fun _ => rfl) (by simp [lg_sl, Value.category]) (by simp [lv_args, Value.category]) rfl (by simp [lv_args, Value.category]) fun u => ?_
  unfold f_X8_init
  refine go_aload_n (pc := 0) (j := 0) (i := 0) dX8_init_0 rfl rfl ?_
  refine go_aload_n (pc := 1) (j := 2) (i := 2) dX8_init_1 rfl rfl ?_
  refine go_iload_n (pc := 2) (j := 3) (i := 3) dX8_init_2 rfl rfl ?_
  refine go_callI (pc := 3) (ct_X7_init_8 self p1 p2 t_self t_p1) lk_X8_1 rfl ⟨by decide, by decide⟩ (Nat.le_of_ble_eq_true rfl) dX8_init_3 rfl fun v1 u1 => ?_
  refine go_aload_n (pc := 6) (j := 0) (i := 0) dX8_init_6 rfl rfl ?_
  refine go_iload_n (pc := 7) (j := 1) (i := 1) dX8_init_7 rfl rfl ?_
  refine go_putI (pc := 8) (n := self) (ci := 8) (k := 2) (v := p0) pa_X8_7_8 (fun _ => rfl) t_self rfl zKeep_int dX8_init_8 fun u2 => ?_
  refine go_aload_n (pc := 11) (j := 0) (i := 0) dX8_init_11 rfl rfl ?_
  refine go_iload (pc := 12) (i := 4) dX8_init_12 rfl ?_
  refine go_putI (pc := 14) (n := self) (ci := 8) (k := 5) (v := p3) pa_X8_13_8 (fun _ => rfl) t_self rfl zKeep_int dX8_init_14 fun u3 => ?_
  refine go_aload_n (pc := 17) (j := 0) (i := 0) dX8_init_17 rfl rfl ?_
  refine go_aload_n (pc := 18) (j := 2) (i := 2) dX8_init_18 rfl rfl ?_
  refine go_getI (pc := 19) (n := p1) (ci := 5) (k := 7) fa_X8_16_5 t_p1 rfl dX8_init_19 ?_
  refine go_putI (pc := 22) (n := self) (ci := 8) (k := 3) (v := (mI u3 p1 7)) pa_X8_21_8 (fun _ => rfl) t_self rfl zKeep_int dX8_init_22 fun u4 => ?_
  refine go_aload_n (pc := 25) (j := 0) (i := 0) dX8_init_25 rfl rfl ?_
  refine go_aload_n (pc := 26) (j := 2) (i := 2) dX8_init_26 rfl rfl ?_
  refine go_callVI (pc := 27) (ci := 5) (ct_X5_strength p1 t_p1) lk_X8_24 rfl rfl rfl (by decide) t_p1 ⟨by decide, by decide⟩ (Nat.le_of_ble_eq_true rfl) dX8_init_27 rfl fun v2 u5 => ?_
  refine go_putI (pc := 30) (n := self) (ci := 8) (k := 4) (v := v2) pa_X8_28_8 (fun _ => rfl) t_self rfl zKeep_int dX8_init_30 fun u6 => ?_
  refine go_aload_n (pc := 33) (j := 0) (i := 0) dX8_init_33 rfl rfl ?_
  refine go_iload (pc := 34) (i := 4) dX8_init_34 rfl ?_
  refine go_putI (pc := 36) (n := self) (ci := 8) (k := 6) (v := p3) pa_X8_30_8 (fun h => by cases h) t_self rfl zKeep_int dX8_init_36 fun u7 => ?_
  exact go_vreturn (pc := 39) rfl dX8_init_39

def f_X9_init (self : Nat) (p0 : Int32) (u : zM) : Option (Unit × zM) := gs p0 (lt (nx u 14) fun n1 => lt (mkc u 14 (xN p0) (xN p0)) fun u1 => lt (sR u1 self 0 (some n1)) fun u2 => gs p0 (lt (nx u2 77) fun n2 => lt (mkc u2 77 (xN p0) (xN p0)) fun u3 => lt (sR u3 self 1 (some n2)) fun u4 => some ((), u4)))
set_option maxHeartbeats 4000000 in
theorem ct_X9_init (self : Nat) (p0 : Int32) (t_self : kd self = 9) : zMet yX9_init cX9_init 2 (none) 1 20 rvV (obT) [.ref self, .int p0] (f_X9_init self p0) := by
  refine zMet_of (A := [(0, .ref self), (1, .int p0)]) (B := []) (ini := true) RX9 rfl (by decide +kernel) (fun _ => rfl) (by simp [lg_sl, Value.category]) (by simp [lv_args, Value.category]) rfl (by simp [lv_args, Value.category]) fun u => ?_
  unfold f_X9_init
  refine go_aload_n (pc := 0) (j := 0) (i := 0) dX9_init_0 rfl rfl ?_
  refine go_objInit (pc := 1) q1001 q124 q125 (by decide) (by decide) dX9_init_1 ?_
  refine go_aload_n (pc := 4) (j := 0) (i := 0) dX9_init_4 rfl rfl ?_
  refine go_iload_n (pc := 5) (j := 1) (i := 1) dX9_init_5 rfl rfl ?_
  refine go_newa_byte (pc := 6) (σ := 14) (by decide) (by decide) dX9_init_6 fun n1 u1 t_n1 => ?_
  refine go_putR (pc := 8) (n := self) (ci := 9) (k := 0) (t := 14) (r := some n1) pa_X9_7_9 (fun _ => rfl) t_self rfl (Or.inr ⟨_, rfl⟩) (fun n h => by cases h; exact t_n1) dX9_init_8 fun u2 => ?_
  refine go_aload_n (pc := 11) (j := 0) (i := 0) dX9_init_11 rfl rfl ?_
  refine go_iload_n (pc := 12) (j := 1) (i := 1) dX9_init_12 rfl rfl ?_
  refine go_newa_int (pc := 13) (σ := 77) (by decide) (by decide) dX9_init_13 fun n2 u3 t_n2 => ?_
  refine go_putR (pc := 15) (n := self) (ci := 9) (k := 1) (t := 13) (r := some n2) pa_X9_13_9 (fun _ => rfl) t_self rfl (Or.inr ⟨_, rfl⟩) (fun n h => by cases h; exact t_n2) dX9_init_15 fun u4 => ?_
  exact go_vreturn (pc := 18) rfl dX9_init_18

def f_X10_init (self : Nat) (u : zM) : Option (Unit × zM) := gs 5 (lt (nx u 22) fun n1 => lt (mkc u 22 (xN 5) (xN 5)) fun u1 => lt (sR u1 self 0 (some n1)) fun u2 => some ((), u2))
set_option maxHeartbeats 4000000 in
theorem ct_X10_init (self : Nat) (t_self : kd self = 10) : zMet yX10_init cX10_init 1 (none) 1 20 rvV (obT) [.ref self] (f_X10_init self) := by
  refine zMet_of (A := [(0, .ref self)]) (B := []) (ini := true) RX10 rfl (by decide +kernel) (fun _ => rfl) (by simp [lg_sl, Value.category]) (by simp [lv_args, Value.category]) rfl (by simp [lv_args, Value.category]) fun u => ?_
  unfold f_X10_init
  refine go_aload_n (pc := 0) (j := 0) (i := 0) dX10_init_0 rfl rfl ?_
  refine go_objInit (pc := 1) q741 q124 q125 (by decide) (by decide) dX10_init_1 ?_
  refine go_aload_n (pc := 4) (j := 0) (i := 0) dX10_init_4 rfl rfl ?_
  refine go_iconst (pc := 5) (v := 5) dX10_init_5 (by decide) ?_
  refine go_anew (pc := 6) (ci := 22) (σ := 22) (C := "WheelLand$Steps") rfl q742 (List.mem_of_getElem? (i := 5) rfl) (by decide) (by decide) (by decide) (by decide) dX10_init_6 fun n1 u1 t_n1 => ?_
  refine go_putR (pc := 9) (n := self) (ci := 10) (k := 0) (t := 22) (r := some n1) pa_X10_11_10 (fun _ => rfl) t_self rfl (Or.inr ⟨_, rfl⟩) (fun n h => by cases h; exact t_n1) dX10_init_9 fun u2 => ?_
  exact go_vreturn (pc := 12) rfl dX10_init_12

def f_X12_init (self : Nat) (p0 : Nat) (p1 : Nat) (p2 : Int32) (p3 : Int32) (p4 : Int32) (u : zM) : Option (Unit × zM) := bd (f_X7_init_12 self p1 p2 u) fun v1 u1 => lt (sR u1 self 2 (some p0)) fun u2 => gb p4 (lt (sI u2 self 4 p4) fun u3 => lt (sI u3 self 3 (p3 / 2)) fun u4 => some ((), u4))
set_option maxHeartbeats 4000000 in
theorem ct_X12_init (self : Nat) (p0 : Nat) (p1 : Nat) (p2 : Int32) (p3 : Int32) (p4 : Int32) (t_self : kd self = 12) (t_p0 : kd p0 = 8) (t_p1 : kd p1 = 5) : zMet yX12_init cX12_init 6 (none) 2 42 rvV (obT) [.ref self, .ref p0, .ref p1, .int p2, .int p3, .int p4] (f_X12_init self p0 p1 p2 p3 p4) := by
  refine zMet_of (A := [(0, .ref self), (1, .ref p0), (2, .ref p1), (3, .int p2), (4, .int p3), (5, .int p4)]) (B := []) (ini := true) RX12 rfl (by decide +kernel) (fun _ => rfl) (by simp [lg_sl, Value.category]) (by simp [lv_args, Value.category]) rfl (by simp [lv_args, Value.category]) fun u => ?_
  unfold f_X12_init
  refine go_aload_n (pc := 0) (j := 0) (i := 0) dX12_init_0 rfl rfl ?_
  refine go_aload_n (pc := 1) (j := 2) (i := 2) dX12_init_1 rfl rfl ?_
  refine go_iload_n (pc := 2) (j := 3) (i := 3) dX12_init_2 rfl rfl ?_
  refine go_callI (pc := 3) (ct_X7_init_12 self p1 p2 t_self t_p1) lk_X12_1 rfl ⟨by decide, by decide⟩ (Nat.le_of_ble_eq_true rfl) dX12_init_3 rfl fun v1 u1 => ?_
  refine go_aload_n (pc := 6) (j := 0) (i := 0) dX12_init_6 rfl rfl ?_
  refine go_aload_n (pc := 7) (j := 1) (i := 1) dX12_init_7 rfl rfl ?_
  refine go_putR (pc := 8) (n := self) (ci := 12) (k := 2) (t := 8) (r := some p0) pa_X12_7_12 (fun _ => rfl) t_self rfl (Or.inl ⟨_, rfl⟩) (fun n h => by cases h; exact t_p0) dX12_init_8 fun u2 => ?_
  refine go_aload_n (pc := 11) (j := 0) (i := 0) dX12_init_11 rfl rfl ?_
  refine go_iload (pc := 12) (i := 5) dX12_init_12 rfl ?_
  refine go_gb fun h1 => ?_
  refine go_putI (pc := 14) (n := self) (ci := 12) (k := 4) (v := p4) pa_X12_13_12 (fun _ => rfl) t_self rfl (zKeep_bool h1) dX12_init_14 fun u3 => ?_
  refine go_aload_n (pc := 17) (j := 0) (i := 0) dX12_init_17 rfl rfl ?_
  refine go_iload (pc := 18) (i := 4) dX12_init_18 rfl ?_
  refine go_iconst (pc := 20) (v := 2) dX12_init_20 (by decide) ?_
  refine go_idiv (pc := 21) dX12_init_21 (by decide) ?_
  refine go_putI (pc := 22) (n := self) (ci := 12) (k := 3) (v := (p3 / 2)) pa_X12_17_12 (fun _ => rfl) t_self rfl zKeep_int dX12_init_22 fun u4 => ?_
  exact go_vreturn (pc := 25) rfl dX12_init_25

def f_X2_init (self : Nat) (p0 : Nat) (u : zM) : Option (Unit × zM) := lt (sR u self 10 (some p0)) fun u1 => gs 6 (lt (nx u1 19) fun n1 => lt (mkc u1 19 (xN 6) (xN 6)) fun u2 => lt (sR u2 self 0 (some n1)) fun u3 => gs 6 (lt (nx u3 18) fun n2 => lt (mkc u3 18 (xN 6) (xN 6)) fun u4 => lt (sR u4 self 1 (some n2)) fun u5 => gs 6 (lt (nx u5 109) fun n3 => lt (mkc u5 109 (xN 6) (xN 6)) fun u6 => lt (sR u6 self 2 (some n3)) fun u7 => gs 6 (lt (nx u7 141) fun n4 => lt (mkc u7 141 (xN 6) (xN 6)) fun u8 => lt (sR u8 self 3 (some n4)) fun u9 => gs 6 (lt (nx u9 173) fun n5 => lt (mkc u9 173 (xN 6) (xN 6)) fun u10 => lt (sR u10 self 4 (some n5)) fun u11 => some ((), u11))))))
set_option maxHeartbeats 4000000 in
theorem ct_X2_init (self : Nat) (p0 : Nat) (t_self : kd self = 2) (t_p0 : kd p0 = 0) : zMet yX2_init cX2_init 2 (none) 1 20 rvV (obT) [.ref self, .ref p0] (f_X2_init self p0) := by
  refine zMet_of (A := [(0, .ref self), (1, .ref p0)]) (B := []) (ini := true) RX2 rfl (by decide +kernel) (fun _ => rfl) (by simp [lg_sl, Value.category]) (by simp [lv_args, Value.category]) rfl (by simp [lv_args, Value.category]) fun u => ?_
  unfold f_X2_init
  refine go_aload_n (pc := 0) (j := 0) (i := 0) dX2_init_0 rfl rfl ?_
  refine go_aload_n (pc := 1) (j := 1) (i := 1) dX2_init_1 rfl rfl ?_
  refine go_putR (pc := 2) (n := self) (ci := 2) (k := 10) (t := 0) (r := some p0) pa_X2_3_2 (fun _ => rfl) t_self rfl (Or.inl ⟨_, rfl⟩) (fun n h => by cases h; exact t_p0) dX2_init_2 fun u1 => ?_
  refine go_aload_n (pc := 5) (j := 0) (i := 0) dX2_init_5 rfl rfl ?_
  refine go_objInit (pc := 6) q174 q124 q125 (by decide) (by decide) dX2_init_6 ?_
  refine go_aload_n (pc := 9) (j := 0) (i := 0) dX2_init_9 rfl rfl ?_
  refine go_bipush (pc := 10) (v := 6) dX2_init_10 (by decide) ?_
  refine go_anew (pc := 12) (ci := 19) (σ := 19) (C := "WheelLand$Lot") rfl q175 (List.mem_of_getElem? (i := 2) rfl) (by decide) (by decide) (by decide) (by decide) dX2_init_12 fun n1 u2 t_n1 => ?_
  refine go_putR (pc := 15) (n := self) (ci := 2) (k := 0) (t := 19) (r := some n1) pa_X2_17_2 (fun _ => rfl) t_self rfl (Or.inr ⟨_, rfl⟩) (fun n h => by cases h; exact t_n1) dX2_init_15 fun u3 => ?_
  refine go_aload_n (pc := 18) (j := 0) (i := 0) dX2_init_18 rfl rfl ?_
  refine go_bipush (pc := 19) (v := 6) dX2_init_19 (by decide) ?_
  refine go_anew (pc := 21) (ci := 18) (σ := 18) (C := "WheelLand$House") rfl q176 (List.mem_of_getElem? (i := 1) rfl) (by decide) (by decide) (by decide) (by decide) dX2_init_21 fun n2 u4 t_n2 => ?_
  refine go_putR (pc := 24) (n := self) (ci := 2) (k := 1) (t := 18) (r := some n2) pa_X2_23_2 (fun _ => rfl) t_self rfl (Or.inr ⟨_, rfl⟩) (fun n h => by cases h; exact t_n2) dX2_init_24 fun u5 => ?_
  refine go_aload_n (pc := 27) (j := 0) (i := 0) dX2_init_27 rfl rfl ?_
  refine go_bipush (pc := 28) (v := 6) dX2_init_28 (by decide) ?_
  refine go_newa_int (pc := 30) (σ := 109) (by decide) (by decide) dX2_init_30 fun n3 u6 t_n3 => ?_
  refine go_putR (pc := 32) (n := self) (ci := 2) (k := 2) (t := 13) (r := some n3) pa_X2_27_2 (fun _ => rfl) t_self rfl (Or.inr ⟨_, rfl⟩) (fun n h => by cases h; exact t_n3) dX2_init_32 fun u7 => ?_
  refine go_aload_n (pc := 35) (j := 0) (i := 0) dX2_init_35 rfl rfl ?_
  refine go_bipush (pc := 36) (v := 6) dX2_init_36 (by decide) ?_
  refine go_newa_int (pc := 38) (σ := 141) (by decide) (by decide) dX2_init_38 fun n4 u8 t_n4 => ?_
  refine go_putR (pc := 40) (n := self) (ci := 2) (k := 3) (t := 13) (r := some n4) pa_X2_31_2 (fun _ => rfl) t_self rfl (Or.inr ⟨_, rfl⟩) (fun n h => by cases h; exact t_n4) dX2_init_40 fun u9 => ?_
  refine go_aload_n (pc := 43) (j := 0) (i := 0) dX2_init_43 rfl rfl ?_
  refine go_bipush (pc := 44) (v := 6) dX2_init_44 (by decide) ?_
  refine go_newa_int (pc := 46) (σ := 173) (by decide) (by decide) dX2_init_46 fun n5 u10 t_n5 => ?_
  refine go_putR (pc := 48) (n := self) (ci := 2) (k := 4) (t := 13) (r := some n5) pa_X2_34_2 (fun _ => rfl) t_self rfl (Or.inr ⟨_, rfl⟩) (fun n h => by cases h; exact t_n5) dX2_init_48 fun u11 => ?_
  exact go_vreturn (pc := 51) rfl dX2_init_51

def f_X0_findHouse (self : Nat) (p0 : Int32) (u : zM) : Option (Option Nat × zM) := bd (f_X0_in p0 0 ((mI u self 16) - 1) u) fun v1 u1 => if v1 = 0 then (some (none, u1)) else (lt (mR u1 self 1) fun r1 => oB r1 fun n1 => ix p0 (mN u1 n1) (lt (mR u1 n1 (xN p0)) fun r2 => some (r2, u1)))
set_option maxHeartbeats 4000000 in
theorem ct_X0_findHouse (self : Nat) (p0 : Int32) (t_self : kd self = 0) : zMet yX0_findHouse cX0_findHouse 2 (some (.object "WheelLand$House")) 2 22 rvR (obR 5) [.ref self, .int p0] (f_X0_findHouse self p0) := by
  refine zMet_of (A := [(0, .ref self), (1, .int p0)]) (B := []) (ini := false) RX0 rfl (by decide +kernel) (fun h => by cases h) (by simp [lg_sl, Value.category]) (by simp [lv_args, Value.category]) rfl (by simp [lv_args, Value.category]) fun u => ?_
  unfold f_X0_findHouse
  refine go_iload_n (pc := 0) (j := 1) (i := 1) dX0_findHouse_0 rfl rfl ?_
  refine go_iconst (pc := 1) (v := 0) dX0_findHouse_1 (by decide) ?_
  refine go_aload_n (pc := 2) (j := 0) (i := 0) dX0_findHouse_2 rfl rfl ?_
  refine go_getI (pc := 3) (n := self) (ci := 0) (k := 16) fa_X0_120_0 t_self rfl dX0_findHouse_3 ?_
  refine go_iconst (pc := 6) (v := 1) dX0_findHouse_6 (by decide) ?_
  refine go_isub (pc := 7) dX0_findHouse_7 ?_
  refine go_callSI (pc := 8) (ct_X0_in p0 0 ((mI u self 16) - 1)) lk_X0_116 rfl ⟨by decide, by decide⟩ (Nat.le_of_ble_eq_true rfl) dX0_findHouse_8 rfl fun v1 u1 => ?_
  refine go_if_eq (pc := 11) (tgt := 23) dX0_findHouse_11 (by decide) (fun h1 => ?_) (fun h1 => ?_)
  · refine go_null (pc := 23) dX0_findHouse_23 ?_
    exact go_areturnQ (pc := 24) (r := none) rfl (Or.inl ⟨_, rfl⟩) (fun n h => by cases h) dX0_findHouse_24
  · refine go_aload_n (pc := 14) (j := 0) (i := 0) dX0_findHouse_14 rfl rfl ?_
    refine go_getR (pc := 15) (n := self) (ci := 0) (k := 1) (t := 18) fa_X0_30_0 t_self rfl dX0_findHouse_15 fun r1 t_r1 => ?_
    refine go_iload_n (pc := 18) (j := 1) (i := 1) dX0_findHouse_18 rfl rfl ?_
    refine go_oB fun n1 e_n1 => ?_
    have t_n1 := t_r1 n1 e_n1
    subst e_n1
    refine go_aald (pc := 19) (n := n1) (ci := 18) (t := 5) (by decide) (by decide) t_n1 rfl dX0_findHouse_19 fun r2 t_r2 => ?_
    refine go_goto (pc := 20) (tgt := 24) dX0_findHouse_20 (by decide) ?_
    exact go_areturnQ (pc := 24) (r := r2) rfl (Or.inl ⟨_, rfl⟩) t_r2 dX0_findHouse_24

def f_X2_asks_L20 (x0 : Nat) (x1 : Int32) (k93 : zM → Option (Int32 × zM)) : Nat → Int32 → zM → Option (Int32 × zM)
  | 0, _, _ => none
  | n + 1, x2, u => if 31 ≤ x2 then (k93 u) else (lt (fun (u2 : zM) => f_X2_asks_L20 x0 x1 k93 n (x2 + 1) u2) fun j1 => if ((x1 >>> (x2 &&& 31)) &&& 1) = 0 then (j1 u) else (lt (mR u x0 10) fun r1 => oB r1 fun n1 => bd (f_X0_findHouse n1 x2 u) fun v1 u3 => oC v1 (gb 0 (some (0, u3))) fun n2 => if (mI u3 x0 6) = 6 then (gb 0 (some (0, u3))) else (lt (mR u3 x0 1) fun r2 => lt (mR u3 x0 10) fun r3 => oB r3 fun n3 => lt (mR u3 n3 1) fun r4 => oB r4 fun n4 => ix x2 (mN u3 n4) (lt (mR u3 n4 (xN x2)) fun r5 => oB r2 fun n5 => oB r5 fun n6 => ix (mI u3 x0 6) (mN u3 n5) (lt (sR u3 n5 (xN (mI u3 x0 6)) (some n6)) fun u4 => lt (sI u4 x0 6 ((mI u4 x0 6) + 1)) fun u5 => j1 u5)))))
section
variable {c0 s0 : Nat} {tbv : List ExceptionTableEntry}
set_option maxHeartbeats 4000000 in
theorem g_X2_asks_L20 (x0 : Nat) (x1 : Int32) (k93 : zM → Option (Int32 × zM)) (t_x0 : kd x0 = 2) (hk93 : ∀ (u : zM), Go RX2 cX2_asks 3 (some .boolean) false 65 1650 [] (obT) (zQ rvI) c0 s0 93 [(0, .ref x0)] [] [] u (k93 u)) : ∀ (n : Nat) (x2 : Int32) (u : zM), Go RX2 cX2_asks 3 (some .boolean) false 65 1650 [] (obT) (zQ rvI) c0 s0 20 [(0, .ref x0), (1, .int x1), (2, .int x2)] [] [] u (f_X2_asks_L20 x0 x1 k93 n x2 u) := by
  intro n
  induction n with
  | zero => intros; exact go_none
  | succ n ih =>
    intro x2 u
    unfold f_X2_asks_L20
    refine go_iload_n (pc := 20) (j := 2) (i := 2) dX2_asks_20 rfl rfl ?_
    refine go_bipush (pc := 21) (v := 31) dX2_asks_21 (by decide) ?_
    refine go_icmp_ge (pc := 23) (tgt := 93) dX2_asks_23 (by decide) (fun h3 => ?_) (fun h3 => ?_)
    · exact go_weak (A' := [(0, .ref x0)]) (B' := []) ⟨rfl, trivial⟩ rfl (fun q h => by cases h) (hk93 u)
    · refine go_iload_n (pc := 26) (j := 1) (i := 1) dX2_asks_26 rfl rfl ?_
      refine go_iload_n (pc := 27) (j := 2) (i := 2) dX2_asks_27 rfl rfl ?_
      refine go_ishr (pc := 28) dX2_asks_28 ?_
      refine go_iconst (pc := 29) (v := 1) dX2_asks_29 (by decide) ?_
      refine go_iand (pc := 30) dX2_asks_30 ?_
      refine go_join0 (pcx := 87) ([(0, .ref x0), (1, .int x1), (2, .int x2)]) ([]) ([]) (True) (fun u2 _ => ?_) (fun j1 hj1 => ?_)
      · refine go_iinc (pc := 87) (i := 2) (w := 1) (A' := [(0, .ref x0), (1, .int x1), (2, .int (x2 + 1))]) rfl (by decide) (by decide) rfl rfl rfl dX2_asks_87 ?_
        refine go_goto (pc := 90) (tgt := 20) dX2_asks_90 (by decide) ?_
        exact go_weak (A' := [(0, .ref x0), (1, .int x1), (2, .int (x2 + 1))]) (B' := []) ⟨rfl, rfl, rfl, trivial⟩ rfl (fun q h => by cases h) (ih (x2 + 1) u2)
      · refine go_if_ne (pc := 31) (tgt := 37) dX2_asks_31 (by decide) (fun h4 => ?_) (fun h4 => ?_)
        · refine go_goto (pc := 34) (tgt := 87) dX2_asks_34 (by decide) ?_
          exact go_weak (A' := [(0, .ref x0), (1, .int x1), (2, .int x2)]) (B' := []) ⟨rfl, rfl, rfl, trivial⟩ rfl (fun q h => by cases h) (hj1 u trivial)
        · refine go_aload_n (pc := 37) (j := 0) (i := 0) dX2_asks_37 rfl rfl ?_
          refine go_getR (pc := 38) (n := x0) (ci := 2) (k := 10) (t := 0) fa_X2_3_2 t_x0 rfl dX2_asks_38 fun r1 t_r1 => ?_
          refine go_iload_n (pc := 41) (j := 2) (i := 2) dX2_asks_41 rfl rfl ?_
          refine go_oB fun n1 e_n1 => ?_
          have t_n1 := t_r1 n1 e_n1
          subst e_n1
          refine go_callVNR (pc := 42) (ci := 0) (ct_X0_findHouse n1 x2 t_n1) lk_X2_44 rfl rfl rfl (by decide) t_n1 ⟨by decide, by decide⟩ (Nat.le_of_ble_eq_true rfl) dX2_asks_42 rfl fun v1 u3 t_v1 => ?_
          refine go_ifnull (pc := 45) (tgt := 57) dX2_asks_45 (by decide) (fun e_n2 => ?_) (fun n2 e_n2 => ?_)
          · subst e_n2
            refine go_iconst (pc := 57) (v := 0) dX2_asks_57 (by decide) ?_
            exact go_zreturn (pc := 58) rfl dX2_asks_58
          · have t_n2 := t_v1 n2 e_n2
            subst e_n2
            refine go_aload_n (pc := 48) (j := 0) (i := 0) dX2_asks_48 rfl rfl ?_
            refine go_getI (pc := 49) (n := x0) (ci := 2) (k := 6) fa_X2_37_2 t_x0 rfl dX2_asks_49 ?_
            refine go_bipush (pc := 52) (v := 6) dX2_asks_52 (by decide) ?_
            refine go_icmp_ne (pc := 54) (tgt := 59) dX2_asks_54 (by decide) (fun h5 => ?_) (fun h5 => ?_)
            · refine go_iconst (pc := 57) (v := 0) dX2_asks_57 (by decide) ?_
              exact go_zreturn (pc := 58) rfl dX2_asks_58
            · refine go_aload_n (pc := 59) (j := 0) (i := 0) dX2_asks_59 rfl rfl ?_
              refine go_getR (pc := 60) (n := x0) (ci := 2) (k := 1) (t := 18) fa_X2_23_2 t_x0 rfl dX2_asks_60 fun r2 t_r2 => ?_
              refine go_aload_n (pc := 63) (j := 0) (i := 0) dX2_asks_63 rfl rfl ?_
              refine go_getI (pc := 64) (n := x0) (ci := 2) (k := 6) fa_X2_37_2 t_x0 rfl dX2_asks_64 ?_
              refine go_aload_n (pc := 67) (j := 0) (i := 0) dX2_asks_67 rfl rfl ?_
              refine go_getR (pc := 68) (n := x0) (ci := 2) (k := 10) (t := 0) fa_X2_3_2 t_x0 rfl dX2_asks_68 fun r3 t_r3 => ?_
              refine go_oB fun n3 e_n3 => ?_
              have t_n3 := t_r3 n3 e_n3
              subst e_n3
              refine go_getR (pc := 71) (n := n3) (ci := 0) (k := 1) (t := 18) fa_X2_48_0 t_n3 rfl dX2_asks_71 fun r4 t_r4 => ?_
              refine go_iload_n (pc := 74) (j := 2) (i := 2) dX2_asks_74 rfl rfl ?_
              refine go_oB fun n4 e_n4 => ?_
              have t_n4 := t_r4 n4 e_n4
              subst e_n4
              refine go_aald (pc := 75) (n := n4) (ci := 18) (t := 5) (by decide) (by decide) t_n4 rfl dX2_asks_75 fun r5 t_r5 => ?_
              refine go_oB fun n5 e_n5 => ?_
              have t_n5 := t_r2 n5 e_n5
              subst e_n5
              refine go_oB fun n6 e_n6 => ?_
              have t_n6 := t_r5 n6 e_n6
              subst e_n6
              refine go_aast (pc := 76) (ci := 18) (ck := 5) (C := RX5) (T := TX5) (N := 16) (by decide) (by decide) t_n5 t_n6 (by decide) rfl rfl rfl dX2_asks_76 fun u4 => ?_
              refine go_aload_n (pc := 77) (j := 0) (i := 0) dX2_asks_77 rfl rfl ?_
              refine go_dupA (pc := 78) dX2_asks_78 ?_
              refine go_getI (pc := 79) (n := x0) (ci := 2) (k := 6) fa_X2_37_2 t_x0 rfl dX2_asks_79 ?_
              refine go_iconst (pc := 82) (v := 1) dX2_asks_82 (by decide) ?_
              refine go_iadd (pc := 83) dX2_asks_83 ?_
              refine go_putI (pc := 84) (n := x0) (ci := 2) (k := 6) (v := ((mI u4 x0 6) + 1)) pa_X2_37_2 (fun h => by cases h) t_x0 rfl zKeep_int dX2_asks_84 fun u5 => ?_
              exact go_weak (A' := [(0, .ref x0), (1, .int x1), (2, .int x2)]) (B' := []) ⟨rfl, rfl, rfl, trivial⟩ rfl (fun q h => by cases h) (hj1 u5 trivial)
end
def f_X2_asks_L100 (x0 : Nat) : Nat → Int32 → zM → Option (Int32 × zM)
  | 0, _, _ => none
  | n + 1, x2, u => if 6 ≤ x2 then (bd (f_X2_tries 8 x0 0 0 0 u) fun v2 u8 => gb 1 (some (1, u8))) else (lt (mR u x0 4) fun r6 => oB r6 fun n7 => ix x2 (mN u n7) (lt (sI u n7 (xN x2) 0) fun u9 => f_X2_asks_L100 x0 n (x2 + 1) u9))
section
variable {c0 s0 : Nat} {tbv : List ExceptionTableEntry}
set_option maxHeartbeats 4000000 in
theorem g_X2_asks_L100 (x0 : Nat) (t_x0 : kd x0 = 2) : ∀ (n : Nat) (x2 : Int32) (u : zM), Go RX2 cX2_asks 3 (some .boolean) false 65 1650 [] (obT) (zQ rvI) c0 s0 100 [(0, .ref x0), (2, .int x2)] [] [] u (f_X2_asks_L100 x0 n x2 u) := by
  intro n
  induction n with
  | zero => intros; exact go_none
  | succ n ih =>
    intro x2 u
    unfold f_X2_asks_L100
    refine go_iload_n (pc := 100) (j := 2) (i := 2) dX2_asks_100 rfl rfl ?_
    refine go_bipush (pc := 101) (v := 6) dX2_asks_101 (by decide) ?_
    refine go_icmp_ge (pc := 103) (tgt := 119) dX2_asks_103 (by decide) (fun h6 => ?_) (fun h6 => ?_)
    · refine go_aload_n (pc := 119) (j := 0) (i := 0) dX2_asks_119 rfl rfl ?_
      refine go_iconst (pc := 120) (v := 0) dX2_asks_120 (by decide) ?_
      refine go_iconst (pc := 121) (v := 0) dX2_asks_121 (by decide) ?_
      refine go_iconst (pc := 122) (v := 0) dX2_asks_122 (by decide) ?_
      refine go_callVV (pc := 123) (ci := 2) (ct_X2_tries 8 x0 0 0 0 t_x0) lk_X2_54 rfl rfl rfl (by decide) t_x0 ⟨by decide, by decide⟩ (Nat.le_of_ble_eq_true rfl) dX2_asks_123 rfl fun v2 u8 => ?_
      refine go_iconst (pc := 126) (v := 1) dX2_asks_126 (by decide) ?_
      exact go_zreturn (pc := 127) rfl dX2_asks_127
    · refine go_aload_n (pc := 106) (j := 0) (i := 0) dX2_asks_106 rfl rfl ?_
      refine go_getR (pc := 107) (n := x0) (ci := 2) (k := 4) (t := 13) fa_X2_34_2 t_x0 rfl dX2_asks_107 fun r6 t_r6 => ?_
      refine go_iload_n (pc := 110) (j := 2) (i := 2) dX2_asks_110 rfl rfl ?_
      refine go_iconst (pc := 111) (v := 0) dX2_asks_111 (by decide) ?_
      refine go_oB fun n7 e_n7 => ?_
      have t_n7 := t_r6 n7 e_n7
      subst e_n7
      refine go_iast (pc := 112) t_n7 dX2_asks_112 fun u9 => ?_
      refine go_iinc (pc := 113) (i := 2) (w := 1) (A' := [(0, .ref x0), (2, .int (x2 + 1))]) rfl (by decide) (by decide) rfl rfl rfl dX2_asks_113 ?_
      refine go_goto (pc := 116) (tgt := 100) dX2_asks_116 (by decide) ?_
      exact go_weak (A' := [(0, .ref x0), (2, .int (x2 + 1))]) (B' := []) ⟨rfl, rfl, trivial⟩ rfl (fun q h => by cases h) (ih (x2 + 1) u9)
end
def f_X2_asks (self : Nat) (p0 : Int32) (u : zM) : Option (Int32 × zM) := lt (sI u self 6 0) fun u1 => if p0 ≤ 0 then (gb 0 (some (0, u1))) else (if (mI u1 self 5) = 0 then (gb 0 (some (0, u1))) else (f_X2_asks_L20 self p0 (fun u6 => lt (sI u6 self 7 (-1)) fun u7 => f_X2_asks_L100 self zFu 0 u7) zFu 0 u1))
set_option maxHeartbeats 4000000 in
theorem ct_X2_asks (self : Nat) (p0 : Int32) (t_self : kd self = 2) : zMet yX2_asks cX2_asks 3 (some .boolean) 65 1650 rvI (obT) [.ref self, .int p0] (f_X2_asks self p0) := by
  refine zMet_of (A := [(0, .ref self), (1, .int p0)]) (B := []) (ini := false) RX2 rfl (by decide +kernel) (fun h => by cases h) (by simp [lg_sl, Value.category]) (by simp [lv_args, Value.category]) rfl (by simp [lv_args, Value.category]) fun u => ?_
  unfold f_X2_asks
  refine go_aload_n (pc := 0) (j := 0) (i := 0) dX2_asks_0 rfl rfl ?_
  refine go_iconst (pc := 1) (v := 0) dX2_asks_1 (by decide) ?_
  refine go_putI (pc := 2) (n := self) (ci := 2) (k := 6) (v := 0) pa_X2_37_2 (fun h => by cases h) t_self rfl zKeep_int dX2_asks_2 fun u1 => ?_
  refine go_iload_n (pc := 5) (j := 1) (i := 1) dX2_asks_5 rfl rfl ?_
  refine go_if_le (pc := 6) (tgt := 16) dX2_asks_6 (by decide) (fun h1 => ?_) (fun h1 => ?_)
  · refine go_iconst (pc := 16) (v := 0) dX2_asks_16 (by decide) ?_
    exact go_zreturn (pc := 17) rfl dX2_asks_17
  · refine go_aload_n (pc := 9) (j := 0) (i := 0) dX2_asks_9 rfl rfl ?_
    refine go_getI (pc := 10) (n := self) (ci := 2) (k := 5) fa_X2_41_2 t_self rfl dX2_asks_10 ?_
    refine go_if_ne (pc := 13) (tgt := 18) dX2_asks_13 (by decide) (fun h2 => ?_) (fun h2 => ?_)
    · refine go_iconst (pc := 16) (v := 0) dX2_asks_16 (by decide) ?_
      exact go_zreturn (pc := 17) rfl dX2_asks_17
    · refine go_iconst (pc := 18) (v := 0) dX2_asks_18 (by decide) ?_
      refine go_istore_n (pc := 19) (j := 2) (i := 2) (A' := [(0, .ref self), (1, .int p0), (2, .int 0)]) rfl (by decide) rfl rfl rfl dX2_asks_19 ?_
      refine go_weak (A' := [(0, .ref self), (1, .int p0), (2, .int 0)]) (B' := []) ⟨rfl, rfl, rfl, trivial⟩ rfl (fun q h => by cases h) (g_X2_asks_L20 self p0 _ t_self ?_ zFu 0 u1)
      · intro u6
        refine go_aload_n (pc := 93) (j := 0) (i := 0) dX2_asks_93 rfl rfl ?_
        refine go_iconst (pc := 94) (v := (-1)) dX2_asks_94 (by decide) ?_
        refine go_putI (pc := 95) (n := self) (ci := 2) (k := 7) (v := (-1)) pa_X2_51_2 (fun h => by cases h) t_self rfl zKeep_int dX2_asks_95 fun u7 => ?_
        refine go_iconst (pc := 98) (v := 0) dX2_asks_98 (by decide) ?_
        refine go_istore_n (pc := 99) (j := 2) (i := 2) (A' := [(0, .ref self), (2, .int 0)]) rfl (by decide) rfl rfl rfl dX2_asks_99 ?_
        exact go_weak (A' := [(0, .ref self), (2, .int 0)]) (B' := []) ⟨rfl, rfl, trivial⟩ rfl (fun q h => by cases h) (g_X2_asks_L100 self t_self zFu 0 u7)

def f_X1_init (self : Nat) (u : zM) : Option (Unit × zM) := gs 400 (lt (nx u 46) fun n1 => lt (mkc u 46 (xN 400) (xN 400)) fun u1 => lt (sR u1 self 0 (some n1)) fun u2 => gs 400 (lt (nx u2 205) fun n2 => lt (mkc u2 205 (xN 400) (xN 400)) fun u3 => lt (sR u3 self 1 (some n2)) fun u4 => some ((), u4)))
set_option maxHeartbeats 4000000 in
theorem ct_X1_init (self : Nat) (t_self : kd self = 1) : zMet yX1_init cX1_init 1 (none) 1 20 rvV (obT) [.ref self] (f_X1_init self) := by
  refine zMet_of (A := [(0, .ref self)]) (B := []) (ini := true) RX1 rfl (by decide +kernel) (fun _ => rfl) (by simp [lg_sl, Value.category]) (by simp [lv_args, Value.category]) rfl (by simp [lv_args, Value.category]) fun u => ?_
  unfold f_X1_init
  refine go_aload_n (pc := 0) (j := 0) (i := 0) dX1_init_0 rfl rfl ?_
  refine go_objInit (pc := 1) q141 q124 q125 (by decide) (by decide) dX1_init_1 ?_
  refine go_aload_n (pc := 4) (j := 0) (i := 0) dX1_init_4 rfl rfl ?_
  refine go_sipush (pc := 5) (v := 400) dX1_init_5 (by decide) ?_
  refine go_newa_byte (pc := 8) (σ := 46) (by decide) (by decide) dX1_init_8 fun n1 u1 t_n1 => ?_
  refine go_putR (pc := 10) (n := self) (ci := 1) (k := 0) (t := 14) (r := some n1) pa_X1_9_1 (fun _ => rfl) t_self rfl (Or.inr ⟨_, rfl⟩) (fun n h => by cases h; exact t_n1) dX1_init_10 fun u2 => ?_
  refine go_aload_n (pc := 13) (j := 0) (i := 0) dX1_init_13 rfl rfl ?_
  refine go_sipush (pc := 14) (v := 400) dX1_init_14 (by decide) ?_
  refine go_newa_int (pc := 17) (σ := 205) (by decide) (by decide) dX1_init_17 fun n2 u3 t_n2 => ?_
  refine go_putR (pc := 19) (n := self) (ci := 1) (k := 1) (t := 13) (r := some n2) pa_X1_15_1 (fun _ => rfl) t_self rfl (Or.inr ⟨_, rfl⟩) (fun n h => by cases h; exact t_n2) dX1_init_19 fun u4 => ?_
  exact go_vreturn (pc := 22) rfl dX1_init_22

def f_X1_read_L32 (x0 : Nat) (x3 : Nat) : Nat → zM → Option ((Option Nat ⊕ Nat) × zM)
  | 0, _ => none
  | n + 1, u => bd (f_X1_isOver x0 u) fun v3 u8 => if v3 = 0 then (bd (f_X1_word x0 (nm 27 1) u8) fun v4 u9 => lt (fun (u10 : zM) => bt (f_X1_next x0 u10) fun v5 u11 => lt (sI u11 x0 7 0) fun u12 => lt (fun (u13 : zM) => bt (f_X1_needs x0 59 u13) fun v6 u14 => lt (nx u14 9) fun n2 => lt (mkc u14 9 0 2) fun u15 => bd (f_X9_init n2 (mI u15 x0 7) u15) fun v7 u16 => lt (mR u16 x0 0) fun r1 => lt (mR u16 n2 0) fun r2 => oB r2 fun n3 => oB r1 fun n4 => gac .byte u16 n4 n3 0 0 (mI u16 x0 7) (lt (sCp u16 n4 (xN 0) n3 (xN 0) (xN (mI u16 x0 7))) fun u17 => lt (mR u17 x0 1) fun r3 => lt (mR u17 n2 1) fun r4 => oB r4 fun n5 => oB r3 fun n6 => gac .int u17 n6 n5 0 0 (mI u17 x0 7) (lt (sCp u17 n6 (xN 0) n5 (xN 0) (xN (mI u17 x0 7))) fun u18 => lt (mR u18 x3 0) fun r5 => oB r5 fun n7 => ix v4 (mN u18 n7) (lt (sR u18 n7 (xN v4) (some n2)) fun u19 => f_X1_read_L32 x0 x3 n u19)))) fun j2 => if 3 ≤ v4 then (bt (f_X1_either x0 u12) fun v8 u20 => j2 u20) else (bt (f_X1_sum 10 x0 u12) fun v9 u21 => j2 u21)) fun j1 => lt (fun (u22 : zM) => bt (f_X1_errs x0 u22) fun v10 u23 => j1 u23) fun j3 => if v4 = (-1) then (j3 u9) else (lt (mR u9 x3 0) fun r6 => oB r6 fun n8 => ix v4 (mN u9 n8) (lt (mR u9 n8 (xN v4)) fun r7 => oC r7 (j1 u9) fun n9 => j3 u9))) else (some (.inl (some x3), u8))
section
variable {c0 s0 : Nat} {tbv : List ExceptionTableEntry}
set_option maxHeartbeats 4000000 in
theorem g_X1_read_L32 (x0 : Nat) (x3 : Nat) (t_x0 : kd x0 = 1) (t_x3 : kd x3 = 10) : ∀ (n : Nat) (u : zM), Go RX1 cX1_read 6 (some (.object "WheelLand$Sheet")) false 2365 67374 [] (obX (obR 10)) (zQT rvR) c0 s0 32 [(0, .ref x0), (3, .ref x3)] [] [] u (f_X1_read_L32 x0 x3 n u) := by
  intro n
  induction n with
  | zero => intros; exact go_none
  | succ n ih =>
    intro u
    unfold f_X1_read_L32
    refine go_aload_n (pc := 32) (j := 0) (i := 0) dX1_read_32 rfl rfl ?_
    refine go_callVI (pc := 33) (ci := 1) (ct_X1_isOver x0 t_x0) lk_X1_55 rfl rfl rfl (by decide) t_x0 ⟨by decide, by decide⟩ (Nat.le_of_ble_eq_true rfl) dX1_read_33 rfl fun v3 u8 => ?_
    refine go_if_ne (pc := 36) (tgt := 160) dX1_read_36 (by decide) (fun h1 => ?_) (fun h1 => ?_)
    · refine go_aload_n (pc := 39) (j := 0) (i := 0) dX1_read_39 rfl rfl ?_
      refine go_ldcS (pc := 40) (k := 1) dX1_read_40 rfl ?_
      refine go_callVI (pc := 42) (ci := 1) (ct_X1_word x0 (nm 27 1) t_x0 (by decide)) lk_X1_70 rfl rfl rfl (by decide) t_x0 ⟨by decide, by decide⟩ (Nat.le_of_ble_eq_true rfl) dX1_read_42 rfl fun v4 u9 => ?_
      refine go_istore (pc := 45) (i := 4) (A' := [(0, .ref x0), (3, .ref x3), (4, .int v4)]) (by decide) rfl rfl rfl dX1_read_45 ?_
      refine go_iload (pc := 47) (i := 4) dX1_read_47 rfl ?_
      refine go_iconst (pc := 49) (v := (-1)) dX1_read_49 (by decide) ?_
      refine go_join0 (pcx := 67) ([(0, .ref x0), (3, .ref x3), (4, .int v4)]) ([]) ([]) (True) (fun u10 _ => ?_) (fun j1 hj1 => ?_)
      · refine go_aload_n (pc := 67) (j := 0) (i := 0) dX1_read_67 rfl rfl ?_
        refine go_callXV (pc := 68) (ci := 1) (ct_X1_next x0 t_x0) lk_X1_77 rfl rfl rfl (by decide) t_x0 ⟨by decide, by decide⟩ (Nat.le_of_ble_eq_true rfl) dX1_read_68 rfl fun v5 u11 => ?_
        refine go_aload_n (pc := 71) (j := 0) (i := 0) dX1_read_71 rfl rfl ?_
        refine go_iconst (pc := 72) (v := 0) dX1_read_72 (by decide) ?_
        refine go_putI (pc := 73) (n := x0) (ci := 1) (k := 7) (v := 0) pa_X1_80_1 (fun h => by cases h) t_x0 rfl zKeep_int dX1_read_73 fun u12 => ?_
        refine go_iload (pc := 76) (i := 4) dX1_read_76 rfl ?_
        refine go_iconst (pc := 78) (v := 3) dX1_read_78 (by decide) ?_
        refine go_join0 (pcx := 93) ([(0, .ref x0), (3, .ref x3), (4, .int v4)]) ([]) ([]) (True) (fun u13 _ => ?_) (fun j2 hj2 => ?_)
        · refine go_aload_n (pc := 93) (j := 0) (i := 0) dX1_read_93 rfl rfl ?_
          refine go_bipush (pc := 94) (v := 59) dX1_read_94 (by decide) ?_
          refine go_callXV (pc := 96) (ci := 1) (ct_X1_needs x0 59 t_x0) lk_X1_101 rfl rfl rfl (by decide) t_x0 ⟨by decide, by decide⟩ (Nat.le_of_ble_eq_true rfl) dX1_read_96 rfl fun v6 u14 => ?_
          refine go_new (pc := 99) (ci := 9) (σ := 9) (N := 2) na_X1_104 (by decide) (by decide) rfl dX1_read_99 fun n2 u15 t_n2 => ?_
          refine go_dupA (pc := 102) dX1_read_102 ?_
          refine go_aload_n (pc := 103) (j := 0) (i := 0) dX1_read_103 rfl rfl ?_
          refine go_getI (pc := 104) (n := x0) (ci := 1) (k := 7) fa_X1_80_1 t_x0 rfl dX1_read_104 ?_
          refine go_callI (pc := 107) (ct_X9_init n2 (mI u15 x0 7) t_n2) lk_X1_106 rfl ⟨by decide, by decide⟩ (Nat.le_of_ble_eq_true rfl) dX1_read_107 rfl fun v7 u16 => ?_
          refine go_astore (pc := 110) (i := 5) (A' := [(0, .ref x0), (3, .ref x3), (4, .int v4), (5, .ref n2)]) (by decide) rfl rfl rfl dX1_read_110 ?_
          refine go_aload_n (pc := 112) (j := 0) (i := 0) dX1_read_112 rfl rfl ?_
          refine go_getR (pc := 113) (n := x0) (ci := 1) (k := 0) (t := 14) fa_X1_9_1 t_x0 rfl dX1_read_113 fun r1 t_r1 => ?_
          refine go_iconst (pc := 116) (v := 0) dX1_read_116 (by decide) ?_
          refine go_aload (pc := 117) (i := 5) dX1_read_117 rfl ?_
          refine go_getR (pc := 119) (n := n2) (ci := 9) (k := 0) (t := 14) fa_X1_107_9 t_n2 rfl dX1_read_119 fun r2 t_r2 => ?_
          refine go_iconst (pc := 122) (v := 0) dX1_read_122 (by decide) ?_
          refine go_aload_n (pc := 123) (j := 0) (i := 0) dX1_read_123 rfl rfl ?_
          refine go_getI (pc := 124) (n := x0) (ci := 1) (k := 7) fa_X1_80_1 t_x0 rfl dX1_read_124 ?_
          refine go_oB fun n3 e_n3 => ?_
          have t_n3 := t_r2 n3 e_n3
          subst e_n3
          refine go_oB fun n4 e_n4 => ?_
          have t_n4 := t_r1 n4 e_n4
          subst e_n4
          refine go_acopy (pc := 127) (ci := 14) (ty := .byte) rfl rfl (by decide) (by decide) t_n4 t_n3 q1011 q1013 q1012 q116 (by decide) (by decide) dX1_read_127 fun u17 => ?_
          refine go_aload_n (pc := 130) (j := 0) (i := 0) dX1_read_130 rfl rfl ?_
          refine go_getR (pc := 131) (n := x0) (ci := 1) (k := 1) (t := 13) fa_X1_15_1 t_x0 rfl dX1_read_131 fun r3 t_r3 => ?_
          refine go_iconst (pc := 134) (v := 0) dX1_read_134 (by decide) ?_
          refine go_aload (pc := 135) (i := 5) dX1_read_135 rfl ?_
          refine go_getR (pc := 137) (n := n2) (ci := 9) (k := 1) (t := 13) fa_X1_114_9 t_n2 rfl dX1_read_137 fun r4 t_r4 => ?_
          refine go_iconst (pc := 140) (v := 0) dX1_read_140 (by decide) ?_
          refine go_aload_n (pc := 141) (j := 0) (i := 0) dX1_read_141 rfl rfl ?_
          refine go_getI (pc := 142) (n := x0) (ci := 1) (k := 7) fa_X1_80_1 t_x0 rfl dX1_read_142 ?_
          refine go_oB fun n5 e_n5 => ?_
          have t_n5 := t_r4 n5 e_n5
          subst e_n5
          refine go_oB fun n6 e_n6 => ?_
          have t_n6 := t_r3 n6 e_n6
          subst e_n6
          refine go_acopy (pc := 145) (ci := 13) (ty := .int) rfl rfl (by decide) (by decide) t_n6 t_n5 q1011 q1013 q1012 q116 (by decide) (by decide) dX1_read_145 fun u18 => ?_
          refine go_aload_n (pc := 148) (j := 3) (i := 3) dX1_read_148 rfl rfl ?_
          refine go_getR (pc := 149) (n := x3) (ci := 10) (k := 0) (t := 22) fa_X1_91_10 t_x3 rfl dX1_read_149 fun r5 t_r5 => ?_
          refine go_iload (pc := 152) (i := 4) dX1_read_152 rfl ?_
          refine go_aload (pc := 154) (i := 5) dX1_read_154 rfl ?_
          refine go_oB fun n7 e_n7 => ?_
          have t_n7 := t_r5 n7 e_n7
          subst e_n7
          refine go_aast (pc := 156) (ci := 22) (ck := 9) (C := RX9) (T := TX9) (N := 2) (by decide) (by decide) t_n7 t_n2 (by decide) rfl rfl rfl dX1_read_156 fun u19 => ?_
          refine go_goto (pc := 157) (tgt := 32) dX1_read_157 (by decide) ?_
          exact go_weak (A' := [(0, .ref x0), (3, .ref x3)]) (B' := []) ⟨rfl, rfl, trivial⟩ rfl (fun q h => by cases h) (ih u19)
        · refine go_icmp_ge (pc := 79) (tgt := 89) dX1_read_79 (by decide) (fun h2 => ?_) (fun h2 => ?_)
          · refine go_aload_n (pc := 89) (j := 0) (i := 0) dX1_read_89 rfl rfl ?_
            refine go_callXV (pc := 90) (ci := 1) (ct_X1_either x0 t_x0) lk_X1_98 rfl rfl rfl (by decide) t_x0 ⟨by decide, by decide⟩ (Nat.le_of_ble_eq_true rfl) dX1_read_90 rfl fun v8 u20 => ?_
            exact go_weak (A' := [(0, .ref x0), (3, .ref x3), (4, .int v4)]) (B' := []) ⟨rfl, rfl, rfl, trivial⟩ rfl (fun q h => by cases h) (hj2 u20 trivial)
          · refine go_aload_n (pc := 82) (j := 0) (i := 0) dX1_read_82 rfl rfl ?_
            refine go_callXV (pc := 83) (ci := 1) (ct_X1_sum 10 x0 t_x0) lk_X1_95 rfl rfl rfl (by decide) t_x0 ⟨by decide, by decide⟩ (Nat.le_of_ble_eq_true rfl) dX1_read_83 rfl fun v9 u21 => ?_
            refine go_goto (pc := 86) (tgt := 93) dX1_read_86 (by decide) ?_
            exact go_weak (A' := [(0, .ref x0), (3, .ref x3), (4, .int v4)]) (B' := []) ⟨rfl, rfl, rfl, trivial⟩ rfl (fun q h => by cases h) (hj2 u21 trivial)
      · refine go_join0 (pcx := 63) ([(0, .ref x0), (3, .ref x3), (4, .int v4)]) ([]) ([]) (True) (fun u22 _ => ?_) (fun j3 hj3 => ?_)
        · refine go_aload_n (pc := 63) (j := 0) (i := 0) dX1_read_63 rfl rfl ?_
          refine go_callXV (pc := 64) (ci := 1) (ct_X1_errs x0 t_x0) lk_X1_47 rfl rfl rfl (by decide) t_x0 ⟨by decide, by decide⟩ (Nat.le_of_ble_eq_true rfl) dX1_read_64 rfl fun v10 u23 => ?_
          exact go_weak (A' := [(0, .ref x0), (3, .ref x3), (4, .int v4)]) (B' := []) ⟨rfl, rfl, rfl, trivial⟩ rfl (fun q h => by cases h) (hj1 u23 trivial)
        · refine go_icmp_eq (pc := 50) (tgt := 63) dX1_read_50 (by decide) (fun h3 => ?_) (fun h3 => ?_)
          · exact go_weak (A' := [(0, .ref x0), (3, .ref x3), (4, .int v4)]) (B' := []) ⟨rfl, rfl, rfl, trivial⟩ rfl (fun q h => by cases h) (hj3 u9 trivial)
          · refine go_aload_n (pc := 53) (j := 3) (i := 3) dX1_read_53 rfl rfl ?_
            refine go_getR (pc := 54) (n := x3) (ci := 10) (k := 0) (t := 22) fa_X1_91_10 t_x3 rfl dX1_read_54 fun r6 t_r6 => ?_
            refine go_iload (pc := 57) (i := 4) dX1_read_57 rfl ?_
            refine go_oB fun n8 e_n8 => ?_
            have t_n8 := t_r6 n8 e_n8
            subst e_n8
            refine go_aald (pc := 59) (n := n8) (ci := 22) (t := 9) (by decide) (by decide) t_n8 rfl dX1_read_59 fun r7 t_r7 => ?_
            refine go_ifnull (pc := 60) (tgt := 67) dX1_read_60 (by decide) (fun e_n9 => ?_) (fun n9 e_n9 => ?_)
            · subst e_n9
              exact go_weak (A' := [(0, .ref x0), (3, .ref x3), (4, .int v4)]) (B' := []) ⟨rfl, rfl, rfl, trivial⟩ rfl (fun q h => by cases h) (hj1 u9 trivial)
            · have t_n9 := t_r7 n9 e_n9
              subst e_n9
              exact go_weak (A' := [(0, .ref x0), (3, .ref x3), (4, .int v4)]) (B' := []) ⟨rfl, rfl, rfl, trivial⟩ rfl (fun q h => by cases h) (hj3 u9 trivial)
    · refine go_aload_n (pc := 160) (j := 3) (i := 3) dX1_read_160 rfl rfl ?_
      exact go_areturnT (pc := 161) (r := some x3) rfl (Or.inl ⟨_, rfl⟩) (fun n h => by cases h; exact t_x3) dX1_read_161
end
def f_X1_read (self : Nat) (p0 : Nat) (p1 : Int32) (u : zM) : Option ((Option Nat ⊕ Nat) × zM) := lt (sR u self 2 (some p0)) fun u1 => lt (sI u1 self 3 p1) fun u2 => lt (sI u2 self 4 0) fun u3 => lt (sI u3 self 6 0) fun u4 => lt (nx u4 10) fun n1 => lt (mkc u4 10 0 1) fun u5 => bd (f_X10_init n1 u5) fun v1 u6 => bt (f_X1_next self u6) fun v2 u7 => f_X1_read_L32 self n1 zFu u7
set_option maxHeartbeats 4000000 in
theorem ct_X1_read (self : Nat) (p0 : Nat) (p1 : Int32) (t_self : kd self = 1) (t_p0 : kd p0 = 14) : zMetT yX1_read cX1_read 6 (some (.object "WheelLand$Sheet")) 2365 67374 rvR (obR 10) [.ref self, .ref p0, .int p1] (f_X1_read self p0 p1) := by
  refine zMetT_of (A := [(0, .ref self), (1, .ref p0), (2, .int p1)]) (B := []) (ini := false) RX1 rfl (by decide +kernel) (fun h => by cases h) (by simp [lg_sl, Value.category]) (by simp [lv_args, Value.category]) rfl (by simp [lv_args, Value.category]) fun u => ?_
  unfold f_X1_read
  refine go_aload_n (pc := 0) (j := 0) (i := 0) dX1_read_0 rfl rfl ?_
  refine go_aload_n (pc := 1) (j := 1) (i := 1) dX1_read_1 rfl rfl ?_
  refine go_putR (pc := 2) (n := self) (ci := 1) (k := 2) (t := 14) (r := some p0) pa_X1_26_1 (fun h => by cases h) t_self rfl (Or.inr ⟨_, rfl⟩) (fun n h => by cases h; exact t_p0) dX1_read_2 fun u1 => ?_
  refine go_aload_n (pc := 5) (j := 0) (i := 0) dX1_read_5 rfl rfl ?_
  refine go_iload_n (pc := 6) (j := 2) (i := 2) dX1_read_6 rfl rfl ?_
  refine go_putI (pc := 7) (n := self) (ci := 1) (k := 3) (v := p1) pa_X1_23_1 (fun h => by cases h) t_self rfl zKeep_int dX1_read_7 fun u2 => ?_
  refine go_aload_n (pc := 10) (j := 0) (i := 0) dX1_read_10 rfl rfl ?_
  refine go_iconst (pc := 11) (v := 0) dX1_read_11 (by decide) ?_
  refine go_putI (pc := 12) (n := self) (ci := 1) (k := 4) (v := 0) pa_X1_19_1 (fun h => by cases h) t_self rfl zKeep_int dX1_read_12 fun u3 => ?_
  refine go_aload_n (pc := 15) (j := 0) (i := 0) dX1_read_15 rfl rfl ?_
  refine go_iconst (pc := 16) (v := 0) dX1_read_16 (by decide) ?_
  refine go_putI (pc := 17) (n := self) (ci := 1) (k := 6) (v := 0) pa_X1_83_1 (fun h => by cases h) t_self rfl zKeep_int dX1_read_17 fun u4 => ?_
  refine go_new (pc := 20) (ci := 10) (σ := 10) (N := 1) na_X1_86 (by decide) (by decide) rfl dX1_read_20 fun n1 u5 t_n1 => ?_
  refine go_dupA (pc := 23) dX1_read_23 ?_
  refine go_callIN (pc := 24) (ct_X10_init n1 t_n1) lk_X1_88 rfl ⟨by decide, by decide⟩ (Nat.le_of_ble_eq_true rfl) dX1_read_24 rfl fun v1 u6 => ?_
  refine go_astore_n (pc := 27) (j := 3) (i := 3) (A' := [(0, .ref self), (1, .ref p0), (2, .int p1), (3, .ref n1)]) rfl (by decide) rfl rfl rfl dX1_read_27 ?_
  refine go_aload_n (pc := 28) (j := 0) (i := 0) dX1_read_28 rfl rfl ?_
  refine go_callXV (pc := 29) (ci := 1) (ct_X1_next self t_self) lk_X1_77 rfl rfl rfl (by decide) t_self ⟨by decide, by decide⟩ (Nat.le_of_ble_eq_true rfl) dX1_read_29 rfl fun v2 u7 => ?_
  exact go_weak (A' := [(0, .ref self), (3, .ref n1)]) (B' := []) ⟨rfl, rfl, trivial⟩ rfl (fun q h => by cases h) (g_X1_read_L32 self n1 t_self t_n1 zFu u7)

def f_X0_init (self : Nat) (u : zM) : Option (Unit × zM) := gs 8 (lt (nx u 17) fun n1 => lt (mkc u 17 (xN 8) (xN 8)) fun u1 => lt (sR u1 self 0 (some n1)) fun u2 => gs 20 (lt (nx u2 50) fun n2 => lt (mkc u2 50 (xN 20) (xN 20)) fun u3 => lt (sR u3 self 1 (some n2)) fun u4 => gs 300 (lt (nx u4 51) fun n3 => lt (mkc u4 51 (xN 300) (xN 300)) fun u5 => lt (sR u5 self 2 (some n3)) fun u6 => gs 200 (lt (nx u6 20) fun n4 => lt (mkc u6 20 (xN 200) (xN 200)) fun u7 => lt (sR u7 self 3 (some n4)) fun u8 => gs 8 (lt (nx u8 21) fun n5 => lt (mkc u8 21 (xN 8) (xN 8)) fun u9 => lt (sR u9 self 4 (some n5)) fun u10 => gs 12 (lt (nx u10 237) fun n6 => lt (mkc u10 237 (xN 12) (xN 12)) fun u11 => lt (sR u11 self 5 (some n6)) fun u12 => gs 12 (lt (nx u12 269) fun n7 => lt (mkc u12 269 (xN 12) (xN 12)) fun u13 => lt (sR u13 self 6 (some n7)) fun u14 => gs 64 (lt (nx u14 301) fun n8 => lt (mkc u14 301 (xN 64) (xN 64)) fun u15 => lt (sR u15 self 7 (some n8)) fun u16 => gs 64 (lt (nx u16 333) fun n9 => lt (mkc u16 333 (xN 64) (xN 64)) fun u17 => lt (sR u17 self 8 (some n9)) fun u18 => gs 13 (lt (nx u18 365) fun n10 => lt (mkc u18 365 (xN 13) (xN 13)) fun u19 => lt (sR u19 self 9 (some n10)) fun u20 => gs 400 (lt (nx u20 397) fun n11 => lt (mkc u20 397 (xN 400) (xN 400)) fun u21 => lt (sR u21 self 10 (some n11)) fun u22 => gs 936 (lt (nx u22 429) fun n12 => lt (mkc u22 429 (xN 936) (xN 936)) fun u23 => lt (sR u23 self 11 (some n12)) fun u24 => gs 400 (lt (nx u24 78) fun n13 => lt (mkc u24 78 (xN 400) (xN 400)) fun u25 => lt (sR u25 self 12 (some n13)) fun u26 => lt (nx u26 1) fun n14 => lt (mkc u26 1 0 8) fun u27 => bd (f_X1_init n14 u27) fun v1 u28 => lt (sR u28 self 13 (some n14)) fun u29 => lt (nx u29 2) fun n15 => lt (mkc u29 2 0 11) fun u30 => bd (f_X2_init n15 self u30) fun v2 u31 => lt (sR u31 self 27 (some n15)) fun u32 => gs 8 (lt (nx u32 461) fun n16 => lt (mkc u32 461 (xN 8) (xN 8)) fun u33 => lt (sR u33 self 28 (some n16)) fun u34 => gs 8 (lt (nx u34 493) fun n17 => lt (mkc u34 493 (xN 8) (xN 8)) fun u35 => lt (sR u35 self 29 (some n17)) fun u36 => gs 8 (lt (nx u36 525) fun n18 => lt (mkc u36 525 (xN 8) (xN 8)) fun u37 => lt (sR u37 self 30 (some n18)) fun u38 => gs 20 (lt (nx u38 557) fun n19 => lt (mkc u38 557 (xN 20) (xN 20)) fun u39 => lt (sR u39 self 31 (some n19)) fun u40 => gs 20 (lt (nx u40 589) fun n20 => lt (mkc u40 589 (xN 20) (xN 20)) fun u41 => lt (sR u41 self 32 (some n20)) fun u42 => gs 8 (lt (nx u42 621) fun n21 => lt (mkc u42 621 (xN 8) (xN 8)) fun u43 => lt (sR u43 self 33 (some n21)) fun u44 => some ((), u44))))))))))))))))))))
set_option maxHeartbeats 4000000 in
theorem ct_X0_init (self : Nat) (t_self : kd self = 0) : zMet yX0_init cX0_init 1 (none) 2 41 rvV (obT) [.ref self] (f_X0_init self) := by
  refine zMet_of (A := [(0, .ref self)]) (B := []) (ini := true) RX0 rfl (by decide +kernel) (fun _ => rfl) (by simp [lg_sl, Value.category]) (by simp [lv_args, Value.category]) rfl (by simp [lv_args, Value.category]) fun u => ?_
  unfold f_X0_init
  refine go_aload_n (pc := 0) (j := 0) (i := 0) dX0_init_0 rfl rfl ?_
  refine go_objInit (pc := 1) q123 q124 q125 (by decide) (by decide) dX0_init_1 ?_
  refine go_aload_n (pc := 4) (j := 0) (i := 0) dX0_init_4 rfl rfl ?_
  refine go_bipush (pc := 5) (v := 8) dX0_init_5 (by decide) ?_
  refine go_anew (pc := 7) (ci := 17) (σ := 17) (C := "WheelLand$Village") rfl q126 (List.mem_of_getElem? (i := 0) rfl) (by decide) (by decide) (by decide) (by decide) dX0_init_7 fun n1 u1 t_n1 => ?_
  refine go_putR (pc := 10) (n := self) (ci := 0) (k := 0) (t := 17) (r := some n1) pa_X0_24_0 (fun _ => rfl) t_self rfl (Or.inr ⟨_, rfl⟩) (fun n h => by cases h; exact t_n1) dX0_init_10 fun u2 => ?_
  refine go_aload_n (pc := 13) (j := 0) (i := 0) dX0_init_13 rfl rfl ?_
  refine go_bipush (pc := 14) (v := 20) dX0_init_14 (by decide) ?_
  refine go_anew (pc := 16) (ci := 18) (σ := 50) (C := "WheelLand$House") rfl q128 (List.mem_of_getElem? (i := 1) rfl) (by decide) (by decide) (by decide) (by decide) dX0_init_16 fun n2 u3 t_n2 => ?_
  refine go_putR (pc := 19) (n := self) (ci := 0) (k := 1) (t := 18) (r := some n2) pa_X0_30_0 (fun _ => rfl) t_self rfl (Or.inr ⟨_, rfl⟩) (fun n h => by cases h; exact t_n2) dX0_init_19 fun u4 => ?_
  refine go_aload_n (pc := 22) (j := 0) (i := 0) dX0_init_22 rfl rfl ?_
  refine go_sipush (pc := 23) (v := 300) dX0_init_23 (by decide) ?_
  refine go_anew (pc := 26) (ci := 19) (σ := 51) (C := "WheelLand$Lot") rfl q130 (List.mem_of_getElem? (i := 2) rfl) (by decide) (by decide) (by decide) (by decide) dX0_init_26 fun n3 u5 t_n3 => ?_
  refine go_putR (pc := 29) (n := self) (ci := 0) (k := 2) (t := 19) (r := some n3) pa_X0_36_0 (fun _ => rfl) t_self rfl (Or.inr ⟨_, rfl⟩) (fun n h => by cases h; exact t_n3) dX0_init_29 fun u6 => ?_
  refine go_aload_n (pc := 32) (j := 0) (i := 0) dX0_init_32 rfl rfl ?_
  refine go_sipush (pc := 33) (v := 200) dX0_init_33 (by decide) ?_
  refine go_anew (pc := 36) (ci := 20) (σ := 20) (C := "WheelLand$Cloth") rfl q132 (List.mem_of_getElem? (i := 3) rfl) (by decide) (by decide) (by decide) (by decide) dX0_init_36 fun n4 u7 t_n4 => ?_
  refine go_putR (pc := 39) (n := self) (ci := 0) (k := 3) (t := 20) (r := some n4) pa_X0_42_0 (fun _ => rfl) t_self rfl (Or.inr ⟨_, rfl⟩) (fun n h => by cases h; exact t_n4) dX0_init_39 fun u8 => ?_
  refine go_aload_n (pc := 42) (j := 0) (i := 0) dX0_init_42 rfl rfl ?_
  refine go_bipush (pc := 43) (v := 8) dX0_init_43 (by decide) ?_
  refine go_anew (pc := 45) (ci := 21) (σ := 21) (C := "WheelLand$Sheet") rfl q134 (List.mem_of_getElem? (i := 4) rfl) (by decide) (by decide) (by decide) (by decide) dX0_init_45 fun n5 u9 t_n5 => ?_
  refine go_putR (pc := 48) (n := self) (ci := 0) (k := 4) (t := 21) (r := some n5) pa_X0_48_0 (fun _ => rfl) t_self rfl (Or.inr ⟨_, rfl⟩) (fun n h => by cases h; exact t_n5) dX0_init_48 fun u10 => ?_
  refine go_aload_n (pc := 51) (j := 0) (i := 0) dX0_init_51 rfl rfl ?_
  refine go_bipush (pc := 52) (v := 12) dX0_init_52 (by decide) ?_
  refine go_newa_int (pc := 54) (σ := 237) (by decide) (by decide) dX0_init_54 fun n6 u11 t_n6 => ?_
  refine go_putR (pc := 56) (n := self) (ci := 0) (k := 5) (t := 13) (r := some n6) pa_X0_52_0 (fun _ => rfl) t_self rfl (Or.inr ⟨_, rfl⟩) (fun n h => by cases h; exact t_n6) dX0_init_56 fun u12 => ?_
  refine go_aload_n (pc := 59) (j := 0) (i := 0) dX0_init_59 rfl rfl ?_
  refine go_bipush (pc := 60) (v := 12) dX0_init_60 (by decide) ?_
  refine go_newa_int (pc := 62) (σ := 269) (by decide) (by decide) dX0_init_62 fun n7 u13 t_n7 => ?_
  refine go_putR (pc := 64) (n := self) (ci := 0) (k := 6) (t := 13) (r := some n7) pa_X0_56_0 (fun _ => rfl) t_self rfl (Or.inr ⟨_, rfl⟩) (fun n h => by cases h; exact t_n7) dX0_init_64 fun u14 => ?_
  refine go_aload_n (pc := 67) (j := 0) (i := 0) dX0_init_67 rfl rfl ?_
  refine go_bipush (pc := 68) (v := 64) dX0_init_68 (by decide) ?_
  refine go_newa_int (pc := 70) (σ := 301) (by decide) (by decide) dX0_init_70 fun n8 u15 t_n8 => ?_
  refine go_putR (pc := 72) (n := self) (ci := 0) (k := 7) (t := 13) (r := some n8) pa_X0_59_0 (fun _ => rfl) t_self rfl (Or.inr ⟨_, rfl⟩) (fun n h => by cases h; exact t_n8) dX0_init_72 fun u16 => ?_
  refine go_aload_n (pc := 75) (j := 0) (i := 0) dX0_init_75 rfl rfl ?_
  refine go_bipush (pc := 76) (v := 64) dX0_init_76 (by decide) ?_
  refine go_newa_int (pc := 78) (σ := 333) (by decide) (by decide) dX0_init_78 fun n9 u17 t_n9 => ?_
  refine go_putR (pc := 80) (n := self) (ci := 0) (k := 8) (t := 13) (r := some n9) pa_X0_62_0 (fun _ => rfl) t_self rfl (Or.inr ⟨_, rfl⟩) (fun n h => by cases h; exact t_n9) dX0_init_80 fun u18 => ?_
  refine go_aload_n (pc := 83) (j := 0) (i := 0) dX0_init_83 rfl rfl ?_
  refine go_bipush (pc := 84) (v := 13) dX0_init_84 (by decide) ?_
  refine go_newa_int (pc := 86) (σ := 365) (by decide) (by decide) dX0_init_86 fun n10 u19 t_n10 => ?_
  refine go_putR (pc := 88) (n := self) (ci := 0) (k := 9) (t := 13) (r := some n10) pa_X0_65_0 (fun _ => rfl) t_self rfl (Or.inr ⟨_, rfl⟩) (fun n h => by cases h; exact t_n10) dX0_init_88 fun u20 => ?_
  refine go_aload_n (pc := 91) (j := 0) (i := 0) dX0_init_91 rfl rfl ?_
  refine go_sipush (pc := 92) (v := 400) dX0_init_92 (by decide) ?_
  refine go_newa_int (pc := 95) (σ := 397) (by decide) (by decide) dX0_init_95 fun n11 u21 t_n11 => ?_
  refine go_putR (pc := 97) (n := self) (ci := 0) (k := 10) (t := 13) (r := some n11) pa_X0_68_0 (fun _ => rfl) t_self rfl (Or.inr ⟨_, rfl⟩) (fun n h => by cases h; exact t_n11) dX0_init_97 fun u22 => ?_
  refine go_aload_n (pc := 100) (j := 0) (i := 0) dX0_init_100 rfl rfl ?_
  refine go_sipush (pc := 101) (v := 936) dX0_init_101 (by decide) ?_
  refine go_newa_int (pc := 104) (σ := 429) (by decide) (by decide) dX0_init_104 fun n12 u23 t_n12 => ?_
  refine go_putR (pc := 106) (n := self) (ci := 0) (k := 11) (t := 13) (r := some n12) pa_X0_71_0 (fun _ => rfl) t_self rfl (Or.inr ⟨_, rfl⟩) (fun n h => by cases h; exact t_n12) dX0_init_106 fun u24 => ?_
  refine go_aload_n (pc := 109) (j := 0) (i := 0) dX0_init_109 rfl rfl ?_
  refine go_sipush (pc := 110) (v := 400) dX0_init_110 (by decide) ?_
  refine go_newa_byte (pc := 113) (σ := 78) (by decide) (by decide) dX0_init_113 fun n13 u25 t_n13 => ?_
  refine go_putR (pc := 115) (n := self) (ci := 0) (k := 12) (t := 14) (r := some n13) pa_X0_74_0 (fun _ => rfl) t_self rfl (Or.inr ⟨_, rfl⟩) (fun n h => by cases h; exact t_n13) dX0_init_115 fun u26 => ?_
  refine go_aload_n (pc := 118) (j := 0) (i := 0) dX0_init_118 rfl rfl ?_
  refine go_new (pc := 119) (ci := 1) (σ := 1) (N := 8) na_X0_78 (by decide) (by decide) rfl dX0_init_119 fun n14 u27 t_n14 => ?_
  refine go_dupA (pc := 122) dX0_init_122 ?_
  refine go_callIN (pc := 123) (ct_X1_init n14 t_n14) lk_X0_80 rfl ⟨by decide, by decide⟩ (Nat.le_of_ble_eq_true rfl) dX0_init_123 rfl fun v1 u28 => ?_
  refine go_putR (pc := 126) (n := self) (ci := 0) (k := 13) (t := 1) (r := some n14) pa_X0_81_0 (fun _ => rfl) t_self rfl (Or.inl ⟨_, rfl⟩) (fun n h => by cases h; exact t_n14) dX0_init_126 fun u29 => ?_
  refine go_aload_n (pc := 129) (j := 0) (i := 0) dX0_init_129 rfl rfl ?_
  refine go_new (pc := 130) (ci := 2) (σ := 2) (N := 11) na_X0_85 (by decide) (by decide) rfl dX0_init_130 fun n15 u30 t_n15 => ?_
  refine go_dupA (pc := 133) dX0_init_133 ?_
  refine go_aload_n (pc := 134) (j := 0) (i := 0) dX0_init_134 rfl rfl ?_
  refine go_callIN (pc := 135) (ct_X2_init n15 self t_n15 t_self) lk_X0_87 rfl ⟨by decide, by decide⟩ (Nat.le_of_ble_eq_true rfl) dX0_init_135 rfl fun v2 u31 => ?_
  refine go_putR (pc := 138) (n := self) (ci := 0) (k := 27) (t := 2) (r := some n15) pa_X0_90_0 (fun _ => rfl) t_self rfl (Or.inl ⟨_, rfl⟩) (fun n h => by cases h; exact t_n15) dX0_init_138 fun u32 => ?_
  refine go_aload_n (pc := 141) (j := 0) (i := 0) dX0_init_141 rfl rfl ?_
  refine go_bipush (pc := 142) (v := 8) dX0_init_142 (by decide) ?_
  refine go_newa_int (pc := 144) (σ := 461) (by decide) (by decide) dX0_init_144 fun n16 u33 t_n16 => ?_
  refine go_putR (pc := 146) (n := self) (ci := 0) (k := 28) (t := 13) (r := some n16) pa_X0_94_0 (fun _ => rfl) t_self rfl (Or.inr ⟨_, rfl⟩) (fun n h => by cases h; exact t_n16) dX0_init_146 fun u34 => ?_
  refine go_aload_n (pc := 149) (j := 0) (i := 0) dX0_init_149 rfl rfl ?_
  refine go_bipush (pc := 150) (v := 8) dX0_init_150 (by decide) ?_
  refine go_newa_int (pc := 152) (σ := 493) (by decide) (by decide) dX0_init_152 fun n17 u35 t_n17 => ?_
  refine go_putR (pc := 154) (n := self) (ci := 0) (k := 29) (t := 13) (r := some n17) pa_X0_97_0 (fun _ => rfl) t_self rfl (Or.inr ⟨_, rfl⟩) (fun n h => by cases h; exact t_n17) dX0_init_154 fun u36 => ?_
  refine go_aload_n (pc := 157) (j := 0) (i := 0) dX0_init_157 rfl rfl ?_
  refine go_bipush (pc := 158) (v := 8) dX0_init_158 (by decide) ?_
  refine go_newa_int (pc := 160) (σ := 525) (by decide) (by decide) dX0_init_160 fun n18 u37 t_n18 => ?_
  refine go_putR (pc := 162) (n := self) (ci := 0) (k := 30) (t := 13) (r := some n18) pa_X0_100_0 (fun _ => rfl) t_self rfl (Or.inr ⟨_, rfl⟩) (fun n h => by cases h; exact t_n18) dX0_init_162 fun u38 => ?_
  refine go_aload_n (pc := 165) (j := 0) (i := 0) dX0_init_165 rfl rfl ?_
  refine go_bipush (pc := 166) (v := 20) dX0_init_166 (by decide) ?_
  refine go_newa_int (pc := 168) (σ := 557) (by decide) (by decide) dX0_init_168 fun n19 u39 t_n19 => ?_
  refine go_putR (pc := 170) (n := self) (ci := 0) (k := 31) (t := 13) (r := some n19) pa_X0_103_0 (fun _ => rfl) t_self rfl (Or.inr ⟨_, rfl⟩) (fun n h => by cases h; exact t_n19) dX0_init_170 fun u40 => ?_
  refine go_aload_n (pc := 173) (j := 0) (i := 0) dX0_init_173 rfl rfl ?_
  refine go_bipush (pc := 174) (v := 20) dX0_init_174 (by decide) ?_
  refine go_newa_int (pc := 176) (σ := 589) (by decide) (by decide) dX0_init_176 fun n20 u41 t_n20 => ?_
  refine go_putR (pc := 178) (n := self) (ci := 0) (k := 32) (t := 13) (r := some n20) pa_X0_106_0 (fun _ => rfl) t_self rfl (Or.inr ⟨_, rfl⟩) (fun n h => by cases h; exact t_n20) dX0_init_178 fun u42 => ?_
  refine go_aload_n (pc := 181) (j := 0) (i := 0) dX0_init_181 rfl rfl ?_
  refine go_bipush (pc := 182) (v := 8) dX0_init_182 (by decide) ?_
  refine go_newa_int (pc := 184) (σ := 621) (by decide) (by decide) dX0_init_184 fun n21 u43 t_n21 => ?_
  refine go_putR (pc := 186) (n := self) (ci := 0) (k := 33) (t := 13) (r := some n21) pa_X0_109_0 (fun _ => rfl) t_self rfl (Or.inr ⟨_, rfl⟩) (fun n h => by cases h; exact t_n21) dX0_init_186 fun u44 => ?_
  exact go_vreturn (pc := 189) rfl dX0_init_189

def f_X0_leads (self : Nat) (p0 : Int32) (p1 : Int32) (p2 : Int32) (u : zM) : Option (Unit × zM) := lt (mR u self 8) fun r1 => oB r1 fun n1 => ix ((8 * p0) + p1) (mN u n1) (lt (mR u self 8) fun r2 => oB r2 fun n2 => ix ((8 * p1) + p2) (mN u n2) (lt (mR u self 8) fun r3 => oB r3 fun n3 => ix ((8 * p0) + p2) (mN u n3) (if (mI u n1 (xN ((8 * p0) + p1))) = (-1) then (some ((), u)) else (if (mI u n2 (xN ((8 * p1) + p2))) = (-1) then (some ((), u)) else (if (mI u n3 (xN ((8 * p0) + p2))) = (-1) then (lt (mR u self 8) fun r4 => oB r4 fun n4 => ix ((8 * p0) + p2) (mN u n4) (lt (sI u n4 (xN ((8 * p0) + p2)) ((mI u n1 (xN ((8 * p0) + p1))) + (mI u n2 (xN ((8 * p1) + p2))))) fun u1 => some ((), u1))) else (if (mI u n3 (xN ((8 * p0) + p2))) ≤ ((mI u n1 (xN ((8 * p0) + p1))) + (mI u n2 (xN ((8 * p1) + p2)))) then (some ((), u)) else (lt (mR u self 8) fun r5 => oB r5 fun n5 => ix ((8 * p0) + p2) (mN u n5) (lt (sI u n5 (xN ((8 * p0) + p2)) ((mI u n1 (xN ((8 * p0) + p1))) + (mI u n2 (xN ((8 * p1) + p2))))) fun u2 => some ((), u2)))))))))
set_option maxHeartbeats 4000000 in
theorem ct_X0_leads (self : Nat) (p0 : Int32) (p1 : Int32) (p2 : Int32) (t_self : kd self = 0) : zMet yX0_leads cX0_leads 7 (none) 1 0 rvV (obT) [.ref self, .int p0, .int p1, .int p2] (f_X0_leads self p0 p1 p2) := by
  refine zMet_of (A := [(0, .ref self), (1, .int p0), (2, .int p1), (3, .int p2)]) (B := []) (ini := false) RX0 rfl (by decide +kernel) (fun h => by cases h) (by simp [lg_sl, Value.category]) (by simp [lv_args, Value.category]) rfl (by simp [lv_args, Value.category]) fun u => ?_
  unfold f_X0_leads
  refine go_aload_n (pc := 0) (j := 0) (i := 0) dX0_leads_0 rfl rfl ?_
  refine go_getR (pc := 1) (n := self) (ci := 0) (k := 8) (t := 13) fa_X0_62_0 t_self rfl dX0_leads_1 fun r1 t_r1 => ?_
  refine go_bipush (pc := 4) (v := 8) dX0_leads_4 (by decide) ?_
  refine go_iload_n (pc := 6) (j := 1) (i := 1) dX0_leads_6 rfl rfl ?_
  refine go_imul (pc := 7) dX0_leads_7 ?_
  refine go_iload_n (pc := 8) (j := 2) (i := 2) dX0_leads_8 rfl rfl ?_
  refine go_iadd (pc := 9) dX0_leads_9 ?_
  refine go_oB fun n1 e_n1 => ?_
  have t_n1 := t_r1 n1 e_n1
  subst e_n1
  refine go_iald (pc := 10) t_n1 dX0_leads_10 ?_
  refine go_istore (pc := 11) (i := 4) (A' := [(0, .ref self), (1, .int p0), (2, .int p1), (3, .int p2), (4, .int (mI u n1 (xN ((8 * p0) + p1))))]) (by decide) rfl rfl rfl dX0_leads_11 ?_
  refine go_aload_n (pc := 13) (j := 0) (i := 0) dX0_leads_13 rfl rfl ?_
  refine go_getR (pc := 14) (n := self) (ci := 0) (k := 8) (t := 13) fa_X0_62_0 t_self rfl dX0_leads_14 fun r2 t_r2 => ?_
  refine go_bipush (pc := 17) (v := 8) dX0_leads_17 (by decide) ?_
  refine go_iload_n (pc := 19) (j := 2) (i := 2) dX0_leads_19 rfl rfl ?_
  refine go_imul (pc := 20) dX0_leads_20 ?_
  refine go_iload_n (pc := 21) (j := 3) (i := 3) dX0_leads_21 rfl rfl ?_
  refine go_iadd (pc := 22) dX0_leads_22 ?_
  refine go_oB fun n2 e_n2 => ?_
  have t_n2 := t_r2 n2 e_n2
  subst e_n2
  refine go_iald (pc := 23) t_n2 dX0_leads_23 ?_
  refine go_istore (pc := 24) (i := 5) (A' := [(0, .ref self), (1, .int p0), (2, .int p1), (3, .int p2), (4, .int (mI u n1 (xN ((8 * p0) + p1)))), (5, .int (mI u n2 (xN ((8 * p1) + p2))))]) (by decide) rfl rfl rfl dX0_leads_24 ?_
  refine go_aload_n (pc := 26) (j := 0) (i := 0) dX0_leads_26 rfl rfl ?_
  refine go_getR (pc := 27) (n := self) (ci := 0) (k := 8) (t := 13) fa_X0_62_0 t_self rfl dX0_leads_27 fun r3 t_r3 => ?_
  refine go_bipush (pc := 30) (v := 8) dX0_leads_30 (by decide) ?_
  refine go_iload_n (pc := 32) (j := 1) (i := 1) dX0_leads_32 rfl rfl ?_
  refine go_imul (pc := 33) dX0_leads_33 ?_
  refine go_iload_n (pc := 34) (j := 3) (i := 3) dX0_leads_34 rfl rfl ?_
  refine go_iadd (pc := 35) dX0_leads_35 ?_
  refine go_oB fun n3 e_n3 => ?_
  have t_n3 := t_r3 n3 e_n3
  subst e_n3
  refine go_iald (pc := 36) t_n3 dX0_leads_36 ?_
  refine go_istore (pc := 37) (i := 6) (A' := [(0, .ref self), (1, .int p0), (2, .int p1), (3, .int p2), (4, .int (mI u n1 (xN ((8 * p0) + p1)))), (5, .int (mI u n2 (xN ((8 * p1) + p2)))), (6, .int (mI u n3 (xN ((8 * p0) + p2))))]) (by decide) rfl rfl rfl dX0_leads_37 ?_
  refine go_iload (pc := 39) (i := 4) dX0_leads_39 rfl ?_
  refine go_iconst (pc := 41) (v := (-1)) dX0_leads_41 (by decide) ?_
  refine go_icmp_eq (pc := 42) (tgt := 83) dX0_leads_42 (by decide) (fun h1 => ?_) (fun h1 => ?_)
  · exact go_vreturn (pc := 83) rfl dX0_leads_83
  · refine go_iload (pc := 45) (i := 5) dX0_leads_45 rfl ?_
    refine go_iconst (pc := 47) (v := (-1)) dX0_leads_47 (by decide) ?_
    refine go_icmp_eq (pc := 48) (tgt := 83) dX0_leads_48 (by decide) (fun h2 => ?_) (fun h2 => ?_)
    · exact go_vreturn (pc := 83) rfl dX0_leads_83
    · refine go_iload (pc := 51) (i := 6) dX0_leads_51 rfl ?_
      refine go_iconst (pc := 53) (v := (-1)) dX0_leads_53 (by decide) ?_
      refine go_icmp_eq (pc := 54) (tgt := 67) dX0_leads_54 (by decide) (fun h3 => ?_) (fun h3 => ?_)
      · refine go_aload_n (pc := 67) (j := 0) (i := 0) dX0_leads_67 rfl rfl ?_
        refine go_getR (pc := 68) (n := self) (ci := 0) (k := 8) (t := 13) fa_X0_62_0 t_self rfl dX0_leads_68 fun r4 t_r4 => ?_
        refine go_bipush (pc := 71) (v := 8) dX0_leads_71 (by decide) ?_
        refine go_iload_n (pc := 73) (j := 1) (i := 1) dX0_leads_73 rfl rfl ?_
        refine go_imul (pc := 74) dX0_leads_74 ?_
        refine go_iload_n (pc := 75) (j := 3) (i := 3) dX0_leads_75 rfl rfl ?_
        refine go_iadd (pc := 76) dX0_leads_76 ?_
        refine go_iload (pc := 77) (i := 4) dX0_leads_77 rfl ?_
        refine go_iload (pc := 79) (i := 5) dX0_leads_79 rfl ?_
        refine go_iadd (pc := 81) dX0_leads_81 ?_
        refine go_oB fun n4 e_n4 => ?_
        have t_n4 := t_r4 n4 e_n4
        subst e_n4
        refine go_iast (pc := 82) t_n4 dX0_leads_82 fun u1 => ?_
        exact go_vreturn (pc := 83) rfl dX0_leads_83
      · refine go_iload (pc := 57) (i := 4) dX0_leads_57 rfl ?_
        refine go_iload (pc := 59) (i := 5) dX0_leads_59 rfl ?_
        refine go_iadd (pc := 61) dX0_leads_61 ?_
        refine go_iload (pc := 62) (i := 6) dX0_leads_62 rfl ?_
        refine go_icmp_ge (pc := 64) (tgt := 83) dX0_leads_64 (by decide) (fun h4 => ?_) (fun h4 => ?_)
        · exact go_vreturn (pc := 83) rfl dX0_leads_83
        · refine go_aload_n (pc := 67) (j := 0) (i := 0) dX0_leads_67 rfl rfl ?_
          refine go_getR (pc := 68) (n := self) (ci := 0) (k := 8) (t := 13) fa_X0_62_0 t_self rfl dX0_leads_68 fun r5 t_r5 => ?_
          refine go_bipush (pc := 71) (v := 8) dX0_leads_71 (by decide) ?_
          refine go_iload_n (pc := 73) (j := 1) (i := 1) dX0_leads_73 rfl rfl ?_
          refine go_imul (pc := 74) dX0_leads_74 ?_
          refine go_iload_n (pc := 75) (j := 3) (i := 3) dX0_leads_75 rfl rfl ?_
          refine go_iadd (pc := 76) dX0_leads_76 ?_
          refine go_iload (pc := 77) (i := 4) dX0_leads_77 rfl ?_
          refine go_iload (pc := 79) (i := 5) dX0_leads_79 rfl ?_
          refine go_iadd (pc := 81) dX0_leads_81 ?_
          refine go_oB fun n5 e_n5 => ?_
          have t_n5 := t_r5 n5 e_n5
          subst e_n5
          refine go_iast (pc := 82) t_n5 dX0_leads_82 fun u2 => ?_
          exact go_vreturn (pc := 83) rfl dX0_leads_83

def f_X0_ways_L10 (x0 : Nat) (x1 : Int32) (k63 : zM → Option (Unit × zM)) : Nat → Int32 → zM → Option (Unit × zM)
  | 0, _, _ => none
  | n + 1, x2, u => if 8 ≤ x2 then (k63 u) else (lt (mR u x0 7) fun r1 => oB r1 fun n1 => ix ((8 * x1) + x2) (mN u n1) (lt (mR u x0 8) fun r2 => lt (fun (z1 : Int32) (u1 : zM) => oB r2 fun n2 => ix ((8 * x1) + x2) (mN u1 n2) (lt (sI u1 n2 (xN ((8 * x1) + x2)) z1) fun u2 => f_X0_ways_L10 x0 x1 k63 n (x2 + 1) u2)) fun j1 => if x1 = x2 then (j1 0 u) else (if (mI u n1 (xN ((8 * x1) + x2))) ≤ 0 then (j1 (-1) u) else (j1 (mI u n1 (xN ((8 * x1) + x2))) u))))
section
variable {c0 s0 : Nat} {tbv : List ExceptionTableEntry}
set_option maxHeartbeats 4000000 in
theorem g_X0_ways_L10 (x0 : Nat) (x1 : Int32) (k63 : zM → Option (Unit × zM)) (t_x0 : kd x0 = 0) (hk63 : ∀ (u : zM), Go RX0 cX0_ways 4 (none) false 2 26 [] (obT) (zQ rvV) c0 s0 63 [(0, .ref x0), (1, .int x1)] [] [] u (k63 u)) : ∀ (n : Nat) (x2 : Int32) (u : zM), Go RX0 cX0_ways 4 (none) false 2 26 [] (obT) (zQ rvV) c0 s0 10 [(0, .ref x0), (1, .int x1), (2, .int x2)] [] [] u (f_X0_ways_L10 x0 x1 k63 n x2 u) := by
  intro n
  induction n with
  | zero => intros; exact go_none
  | succ n ih =>
    intro x2 u
    unfold f_X0_ways_L10
    refine go_iload_n (pc := 10) (j := 2) (i := 2) dX0_ways_10 rfl rfl ?_
    refine go_bipush (pc := 11) (v := 8) dX0_ways_11 (by decide) ?_
    refine go_icmp_ge (pc := 13) (tgt := 63) dX0_ways_13 (by decide) (fun h2 => ?_) (fun h2 => ?_)
    · exact go_weak (A' := [(0, .ref x0), (1, .int x1)]) (B' := []) ⟨rfl, rfl, trivial⟩ rfl (fun q h => by cases h) (hk63 u)
    · refine go_aload_n (pc := 16) (j := 0) (i := 0) dX0_ways_16 rfl rfl ?_
      refine go_getR (pc := 17) (n := x0) (ci := 0) (k := 7) (t := 13) fa_X0_59_0 t_x0 rfl dX0_ways_17 fun r1 t_r1 => ?_
      refine go_bipush (pc := 20) (v := 8) dX0_ways_20 (by decide) ?_
      refine go_iload_n (pc := 22) (j := 1) (i := 1) dX0_ways_22 rfl rfl ?_
      refine go_imul (pc := 23) dX0_ways_23 ?_
      refine go_iload_n (pc := 24) (j := 2) (i := 2) dX0_ways_24 rfl rfl ?_
      refine go_iadd (pc := 25) dX0_ways_25 ?_
      refine go_oB fun n1 e_n1 => ?_
      have t_n1 := t_r1 n1 e_n1
      subst e_n1
      refine go_iald (pc := 26) t_n1 dX0_ways_26 ?_
      refine go_istore_n (pc := 27) (j := 3) (i := 3) (A' := [(0, .ref x0), (1, .int x1), (2, .int x2), (3, .int (mI u n1 (xN ((8 * x1) + x2))))]) rfl (by decide) rfl rfl rfl dX0_ways_27 ?_
      refine go_aload_n (pc := 28) (j := 0) (i := 0) dX0_ways_28 rfl rfl ?_
      refine go_getR (pc := 29) (n := x0) (ci := 0) (k := 8) (t := 13) fa_X0_62_0 t_x0 rfl dX0_ways_29 fun r2 t_r2 => ?_
      refine go_bipush (pc := 32) (v := 8) dX0_ways_32 (by decide) ?_
      refine go_iload_n (pc := 34) (j := 1) (i := 1) dX0_ways_34 rfl rfl ?_
      refine go_imul (pc := 35) dX0_ways_35 ?_
      refine go_iload_n (pc := 36) (j := 2) (i := 2) dX0_ways_36 rfl rfl ?_
      refine go_iadd (pc := 37) dX0_ways_37 ?_
      refine go_iload_n (pc := 38) (j := 1) (i := 1) dX0_ways_38 rfl rfl ?_
      refine go_iload_n (pc := 39) (j := 2) (i := 2) dX0_ways_39 rfl rfl ?_
      refine go_join1 (pcx := 56) (α1 := Int32) (fun z1 => [(0, .ref x0), (1, .int x1), (2, .int x2)]) (fun z1 => []) (fun z1 => [.int z1, .int ((8 * x1) + x2), va_rf r2]) (fun z1 => True) (fun z1 u1 _ => ?_) (fun j1 hj1 => ?_)
      · refine go_oB fun n2 e_n2 => ?_
        have t_n2 := t_r2 n2 e_n2
        subst e_n2
        refine go_iast (pc := 56) t_n2 dX0_ways_56 fun u2 => ?_
        refine go_iinc (pc := 57) (i := 2) (w := 1) (A' := [(0, .ref x0), (1, .int x1), (2, .int (x2 + 1))]) rfl (by decide) (by decide) rfl rfl rfl dX0_ways_57 ?_
        refine go_goto (pc := 60) (tgt := 10) dX0_ways_60 (by decide) ?_
        exact go_weak (A' := [(0, .ref x0), (1, .int x1), (2, .int (x2 + 1))]) (B' := []) ⟨rfl, rfl, rfl, trivial⟩ rfl (fun q h => by cases h) (ih (x2 + 1) u2)
      · refine go_icmp_ne (pc := 40) (tgt := 47) dX0_ways_40 (by decide) (fun h3 => ?_) (fun h3 => ?_)
        · refine go_iconst (pc := 43) (v := 0) dX0_ways_43 (by decide) ?_
          refine go_goto (pc := 44) (tgt := 56) dX0_ways_44 (by decide) ?_
          exact go_weak (A' := [(0, .ref x0), (1, .int x1), (2, .int x2)]) (B' := []) ⟨rfl, rfl, rfl, trivial⟩ rfl (fun q h => by cases h) (hj1 0 u trivial)
        · refine go_iload_n (pc := 47) (j := 3) (i := 3) dX0_ways_47 rfl rfl ?_
          refine go_if_le (pc := 48) (tgt := 55) dX0_ways_48 (by decide) (fun h4 => ?_) (fun h4 => ?_)
          · refine go_iconst (pc := 55) (v := (-1)) dX0_ways_55 (by decide) ?_
            exact go_weak (A' := [(0, .ref x0), (1, .int x1), (2, .int x2)]) (B' := []) ⟨rfl, rfl, rfl, trivial⟩ rfl (fun q h => by cases h) (hj1 (-1) u trivial)
          · refine go_iload_n (pc := 51) (j := 3) (i := 3) dX0_ways_51 rfl rfl ?_
            refine go_goto (pc := 52) (tgt := 56) dX0_ways_52 (by decide) ?_
            exact go_weak (A' := [(0, .ref x0), (1, .int x1), (2, .int x2)]) (B' := []) ⟨rfl, rfl, rfl, trivial⟩ rfl (fun q h => by cases h) (hj1 (mI u n1 (xN ((8 * x1) + x2))) u trivial)
end
def f_X0_ways_L2 (x0 : Nat) (k69 : zM → Option (Unit × zM)) : Nat → Int32 → zM → Option (Unit × zM)
  | 0, _, _ => none
  | n + 1, x1, u => if 8 ≤ x1 then (k69 u) else (f_X0_ways_L10 x0 x1 (fun u3 => f_X0_ways_L2 x0 k69 n (x1 + 1) u3) zFu 0 u)
section
variable {c0 s0 : Nat} {tbv : List ExceptionTableEntry}
set_option maxHeartbeats 4000000 in
theorem g_X0_ways_L2 (x0 : Nat) (k69 : zM → Option (Unit × zM)) (t_x0 : kd x0 = 0) (hk69 : ∀ (u : zM), Go RX0 cX0_ways 4 (none) false 2 26 [] (obT) (zQ rvV) c0 s0 69 [(0, .ref x0)] [] [] u (k69 u)) : ∀ (n : Nat) (x1 : Int32) (u : zM), Go RX0 cX0_ways 4 (none) false 2 26 [] (obT) (zQ rvV) c0 s0 2 [(0, .ref x0), (1, .int x1)] [] [] u (f_X0_ways_L2 x0 k69 n x1 u) := by
  intro n
  induction n with
  | zero => intros; exact go_none
  | succ n ih =>
    intro x1 u
    unfold f_X0_ways_L2
    refine go_iload_n (pc := 2) (j := 1) (i := 1) dX0_ways_2 rfl rfl ?_
    refine go_bipush (pc := 3) (v := 8) dX0_ways_3 (by decide) ?_
    refine go_icmp_ge (pc := 5) (tgt := 69) dX0_ways_5 (by decide) (fun h1 => ?_) (fun h1 => ?_)
    · exact go_weak (A' := [(0, .ref x0)]) (B' := []) ⟨rfl, trivial⟩ rfl (fun q h => by cases h) (hk69 u)
    · refine go_iconst (pc := 8) (v := 0) dX0_ways_8 (by decide) ?_
      refine go_istore_n (pc := 9) (j := 2) (i := 2) (A' := [(0, .ref x0), (1, .int x1), (2, .int 0)]) rfl (by decide) rfl rfl rfl dX0_ways_9 ?_
      refine go_weak (A' := [(0, .ref x0), (1, .int x1), (2, .int 0)]) (B' := []) ⟨rfl, rfl, rfl, trivial⟩ rfl (fun q h => by cases h) (g_X0_ways_L10 x0 x1 _ t_x0 ?_ zFu 0 u)
      · intro u3
        refine go_iinc (pc := 63) (i := 1) (w := 1) (A' := [(0, .ref x0), (1, .int (x1 + 1))]) rfl (by decide) (by decide) rfl rfl rfl dX0_ways_63 ?_
        refine go_goto (pc := 66) (tgt := 2) dX0_ways_66 (by decide) ?_
        exact go_weak (A' := [(0, .ref x0), (1, .int (x1 + 1))]) (B' := []) ⟨rfl, rfl, trivial⟩ rfl (fun q h => by cases h) (ih (x1 + 1) u3)
end
def f_X0_ways_L87 (x0 : Nat) (x1 : Int32) (x2 : Int32) (k106 : zM → Option (Unit × zM)) : Nat → Int32 → zM → Option (Unit × zM)
  | 0, _, _ => none
  | n + 1, x3, u => if 8 ≤ x3 then (k106 u) else (bd (f_X0_leads x0 x2 x1 x3 u) fun v1 u5 => f_X0_ways_L87 x0 x1 x2 k106 n (x3 + 1) u5)
section
variable {c0 s0 : Nat} {tbv : List ExceptionTableEntry}
set_option maxHeartbeats 4000000 in
theorem g_X0_ways_L87 (x0 : Nat) (x1 : Int32) (x2 : Int32) (k106 : zM → Option (Unit × zM)) (t_x0 : kd x0 = 0) (hk106 : ∀ (u : zM), Go RX0 cX0_ways 4 (none) false 2 26 [] (obT) (zQ rvV) c0 s0 106 [(0, .ref x0), (1, .int x1), (2, .int x2)] [] [] u (k106 u)) : ∀ (n : Nat) (x3 : Int32) (u : zM), Go RX0 cX0_ways 4 (none) false 2 26 [] (obT) (zQ rvV) c0 s0 87 [(0, .ref x0), (1, .int x1), (2, .int x2), (3, .int x3)] [] [] u (f_X0_ways_L87 x0 x1 x2 k106 n x3 u) := by
  intro n
  induction n with
  | zero => intros; exact go_none
  | succ n ih =>
    intro x3 u
    unfold f_X0_ways_L87
    refine go_iload_n (pc := 87) (j := 3) (i := 3) dX0_ways_87 rfl rfl ?_
    refine go_bipush (pc := 88) (v := 8) dX0_ways_88 (by decide) ?_
    refine go_icmp_ge (pc := 90) (tgt := 106) dX0_ways_90 (by decide) (fun h7 => ?_) (fun h7 => ?_)
    · exact go_weak (A' := [(0, .ref x0), (1, .int x1), (2, .int x2)]) (B' := []) ⟨rfl, rfl, rfl, trivial⟩ rfl (fun q h => by cases h) (hk106 u)
    · refine go_aload_n (pc := 93) (j := 0) (i := 0) dX0_ways_93 rfl rfl ?_
      refine go_iload_n (pc := 94) (j := 2) (i := 2) dX0_ways_94 rfl rfl ?_
      refine go_iload_n (pc := 95) (j := 1) (i := 1) dX0_ways_95 rfl rfl ?_
      refine go_iload_n (pc := 96) (j := 3) (i := 3) dX0_ways_96 rfl rfl ?_
      refine go_callVV (pc := 97) (ci := 0) (ct_X0_leads x0 x2 x1 x3 t_x0) lk_X0_140 rfl rfl rfl (by decide) t_x0 ⟨by decide, by decide⟩ (Nat.le_of_ble_eq_true rfl) dX0_ways_97 rfl fun v1 u5 => ?_
      refine go_iinc (pc := 100) (i := 3) (w := 1) (A' := [(0, .ref x0), (1, .int x1), (2, .int x2), (3, .int (x3 + 1))]) rfl (by decide) (by decide) rfl rfl rfl dX0_ways_100 ?_
      refine go_goto (pc := 103) (tgt := 87) dX0_ways_103 (by decide) ?_
      exact go_weak (A' := [(0, .ref x0), (1, .int x1), (2, .int x2), (3, .int (x3 + 1))]) (B' := []) ⟨rfl, rfl, rfl, rfl, trivial⟩ rfl (fun q h => by cases h) (ih (x3 + 1) u5)
end
def f_X0_ways_L79 (x0 : Nat) (x1 : Int32) (k112 : zM → Option (Unit × zM)) : Nat → Int32 → zM → Option (Unit × zM)
  | 0, _, _ => none
  | n + 1, x2, u => if 8 ≤ x2 then (k112 u) else (f_X0_ways_L87 x0 x1 x2 (fun u6 => f_X0_ways_L79 x0 x1 k112 n (x2 + 1) u6) zFu 0 u)
section
variable {c0 s0 : Nat} {tbv : List ExceptionTableEntry}
set_option maxHeartbeats 4000000 in
theorem g_X0_ways_L79 (x0 : Nat) (x1 : Int32) (k112 : zM → Option (Unit × zM)) (t_x0 : kd x0 = 0) (hk112 : ∀ (u : zM), Go RX0 cX0_ways 4 (none) false 2 26 [] (obT) (zQ rvV) c0 s0 112 [(0, .ref x0), (1, .int x1)] [] [] u (k112 u)) : ∀ (n : Nat) (x2 : Int32) (u : zM), Go RX0 cX0_ways 4 (none) false 2 26 [] (obT) (zQ rvV) c0 s0 79 [(0, .ref x0), (1, .int x1), (2, .int x2)] [] [] u (f_X0_ways_L79 x0 x1 k112 n x2 u) := by
  intro n
  induction n with
  | zero => intros; exact go_none
  | succ n ih =>
    intro x2 u
    unfold f_X0_ways_L79
    refine go_iload_n (pc := 79) (j := 2) (i := 2) dX0_ways_79 rfl rfl ?_
    refine go_bipush (pc := 80) (v := 8) dX0_ways_80 (by decide) ?_
    refine go_icmp_ge (pc := 82) (tgt := 112) dX0_ways_82 (by decide) (fun h6 => ?_) (fun h6 => ?_)
    · exact go_weak (A' := [(0, .ref x0), (1, .int x1)]) (B' := []) ⟨rfl, rfl, trivial⟩ rfl (fun q h => by cases h) (hk112 u)
    · refine go_iconst (pc := 85) (v := 0) dX0_ways_85 (by decide) ?_
      refine go_istore_n (pc := 86) (j := 3) (i := 3) (A' := [(0, .ref x0), (1, .int x1), (2, .int x2), (3, .int 0)]) rfl (by decide) rfl rfl rfl dX0_ways_86 ?_
      refine go_weak (A' := [(0, .ref x0), (1, .int x1), (2, .int x2), (3, .int 0)]) (B' := []) ⟨rfl, rfl, rfl, rfl, trivial⟩ rfl (fun q h => by cases h) (g_X0_ways_L87 x0 x1 x2 _ t_x0 ?_ zFu 0 u)
      · intro u6
        refine go_iinc (pc := 106) (i := 2) (w := 1) (A' := [(0, .ref x0), (1, .int x1), (2, .int (x2 + 1))]) rfl (by decide) (by decide) rfl rfl rfl dX0_ways_106 ?_
        refine go_goto (pc := 109) (tgt := 79) dX0_ways_109 (by decide) ?_
        exact go_weak (A' := [(0, .ref x0), (1, .int x1), (2, .int (x2 + 1))]) (B' := []) ⟨rfl, rfl, rfl, trivial⟩ rfl (fun q h => by cases h) (ih (x2 + 1) u6)
end
def f_X0_ways_L71 (x0 : Nat) : Nat → Int32 → zM → Option (Unit × zM)
  | 0, _, _ => none
  | n + 1, x1, u => if 8 ≤ x1 then (some ((), u)) else (f_X0_ways_L79 x0 x1 (fun u7 => f_X0_ways_L71 x0 n (x1 + 1) u7) zFu 0 u)
section
variable {c0 s0 : Nat} {tbv : List ExceptionTableEntry}
set_option maxHeartbeats 4000000 in
theorem g_X0_ways_L71 (x0 : Nat) (t_x0 : kd x0 = 0) : ∀ (n : Nat) (x1 : Int32) (u : zM), Go RX0 cX0_ways 4 (none) false 2 26 [] (obT) (zQ rvV) c0 s0 71 [(0, .ref x0), (1, .int x1)] [] [] u (f_X0_ways_L71 x0 n x1 u) := by
  intro n
  induction n with
  | zero => intros; exact go_none
  | succ n ih =>
    intro x1 u
    unfold f_X0_ways_L71
    refine go_iload_n (pc := 71) (j := 1) (i := 1) dX0_ways_71 rfl rfl ?_
    refine go_bipush (pc := 72) (v := 8) dX0_ways_72 (by decide) ?_
    refine go_icmp_ge (pc := 74) (tgt := 118) dX0_ways_74 (by decide) (fun h5 => ?_) (fun h5 => ?_)
    · exact go_vreturn (pc := 118) rfl dX0_ways_118
    · refine go_iconst (pc := 77) (v := 0) dX0_ways_77 (by decide) ?_
      refine go_istore_n (pc := 78) (j := 2) (i := 2) (A' := [(0, .ref x0), (1, .int x1), (2, .int 0)]) rfl (by decide) rfl rfl rfl dX0_ways_78 ?_
      refine go_weak (A' := [(0, .ref x0), (1, .int x1), (2, .int 0)]) (B' := []) ⟨rfl, rfl, rfl, trivial⟩ rfl (fun q h => by cases h) (g_X0_ways_L79 x0 x1 _ t_x0 ?_ zFu 0 u)
      · intro u7
        refine go_iinc (pc := 112) (i := 1) (w := 1) (A' := [(0, .ref x0), (1, .int (x1 + 1))]) rfl (by decide) (by decide) rfl rfl rfl dX0_ways_112 ?_
        refine go_goto (pc := 115) (tgt := 71) dX0_ways_115 (by decide) ?_
        exact go_weak (A' := [(0, .ref x0), (1, .int (x1 + 1))]) (B' := []) ⟨rfl, rfl, trivial⟩ rfl (fun q h => by cases h) (ih (x1 + 1) u7)
end
def f_X0_ways (self : Nat) (u : zM) : Option (Unit × zM) := f_X0_ways_L2 self (fun u4 => f_X0_ways_L71 self zFu 0 u4) zFu 0 u
set_option maxHeartbeats 4000000 in
theorem ct_X0_ways (self : Nat) (t_self : kd self = 0) : zMet yX0_ways cX0_ways 4 (none) 2 26 rvV (obT) [.ref self] (f_X0_ways self) := by
  refine zMet_of (A := [(0, .ref self)]) (B := []) (ini := false) RX0 rfl (by decide +kernel) (fun h => by cases h) (by simp [lg_sl, Value.category]) (by simp [lv_args, Value.category]) rfl (by simp [lv_args, Value.category]) fun u => ?_
  unfold f_X0_ways
  refine go_iconst (pc := 0) (v := 0) dX0_ways_0 (by decide) ?_
  refine go_istore_n (pc := 1) (j := 1) (i := 1) (A' := [(0, .ref self), (1, .int 0)]) rfl (by decide) rfl rfl rfl dX0_ways_1 ?_
  refine go_weak (A' := [(0, .ref self), (1, .int 0)]) (B' := []) ⟨rfl, rfl, trivial⟩ rfl (fun q h => by cases h) (g_X0_ways_L2 self _ t_self ?_ zFu 0 u)
  · intro u4
    refine go_iconst (pc := 69) (v := 0) dX0_ways_69 (by decide) ?_
    refine go_istore_n (pc := 70) (j := 1) (i := 1) (A' := [(0, .ref self), (1, .int 0)]) rfl (by decide) rfl rfl rfl dX0_ways_70 ?_
    exact go_weak (A' := [(0, .ref self), (1, .int 0)]) (B' := []) ⟨rfl, rfl, trivial⟩ rfl (fun q h => by cases h) (g_X0_ways_L71 self t_self zFu 0 u4)

def f_X0_village_L45 (x0 : Nat) (x1 : Int32) (x2 : Int32) (x3 : Int32) (k72 : zM → Option (Int32 × zM)) : Nat → Int32 → zM → Option (Int32 × zM)
  | 0, _, _ => none
  | n + 1, x4, u => if x4 ≤ 0 then (k72 u) else (if (x4 - x4 / 100 * 100) ≤ 40 then (f_X0_village_L45 x0 x1 x2 x3 k72 n (x4 / 100) u) else (some ((-1), u)))
section
variable {c0 s0 : Nat} {tbv : List ExceptionTableEntry}
set_option maxHeartbeats 4000000 in
theorem g_X0_village_L45 (x0 : Nat) (x1 : Int32) (x2 : Int32) (x3 : Int32) (k72 : zM → Option (Int32 × zM)) (t_x0 : kd x0 = 0) (hk72 : ∀ (u : zM), Go RX0 cX0_village 5 (some .int) false 3 49 [] (obT) (zQ rvI) c0 s0 72 [(0, .ref x0), (1, .int x1), (2, .int x2), (3, .int x3)] [] [] u (k72 u)) : ∀ (n : Nat) (x4 : Int32) (u : zM), Go RX0 cX0_village 5 (some .int) false 3 49 [] (obT) (zQ rvI) c0 s0 45 [(0, .ref x0), (1, .int x1), (2, .int x2), (3, .int x3), (4, .int x4)] [] [] u (f_X0_village_L45 x0 x1 x2 x3 k72 n x4 u) := by
  intro n
  induction n with
  | zero => intros; exact go_none
  | succ n ih =>
    intro x4 u
    unfold f_X0_village_L45
    refine go_iload (pc := 45) (i := 4) dX0_village_45 rfl ?_
    refine go_if_le (pc := 47) (tgt := 72) dX0_village_47 (by decide) (fun h6 => ?_) (fun h6 => ?_)
    · exact go_weak (A' := [(0, .ref x0), (1, .int x1), (2, .int x2), (3, .int x3)]) (B' := []) ⟨rfl, rfl, rfl, rfl, trivial⟩ rfl (fun q h => by cases h) (hk72 u)
    · refine go_iload (pc := 50) (i := 4) dX0_village_50 rfl ?_
      refine go_bipush (pc := 52) (v := 100) dX0_village_52 (by decide) ?_
      refine go_irem (pc := 54) dX0_village_54 (by decide) ?_
      refine go_bipush (pc := 55) (v := 40) dX0_village_55 (by decide) ?_
      refine go_icmp_le (pc := 57) (tgt := 62) dX0_village_57 (by decide) (fun h7 => ?_) (fun h7 => ?_)
      · refine go_iload (pc := 62) (i := 4) dX0_village_62 rfl ?_
        refine go_bipush (pc := 64) (v := 100) dX0_village_64 (by decide) ?_
        refine go_idiv (pc := 66) dX0_village_66 (by decide) ?_
        refine go_istore (pc := 67) (i := 4) (A' := [(0, .ref x0), (1, .int x1), (2, .int x2), (3, .int x3), (4, .int (x4 / 100))]) (by decide) rfl rfl rfl dX0_village_67 ?_
        refine go_goto (pc := 69) (tgt := 45) dX0_village_69 (by decide) ?_
        exact go_weak (A' := [(0, .ref x0), (1, .int x1), (2, .int x2), (3, .int x3), (4, .int (x4 / 100))]) (B' := []) ⟨rfl, rfl, rfl, rfl, rfl, trivial⟩ rfl (fun q h => by cases h) (ih (x4 / 100) u)
      · refine go_iconst (pc := 60) (v := (-1)) dX0_village_60 (by decide) ?_
        exact go_ireturn (pc := 61) rfl dX0_village_61
end
def f_X0_village (self : Nat) (p0 : Int32) (p1 : Int32) (p2 : Int32) (u : zM) : Option (Int32 × zM) := if p0 < 0 then (some ((-1), u)) else (if 40404040 < p0 then (some ((-1), u)) else (bd (f_X0_in p1 1 9 u) fun v1 u1 => if v1 = 0 then (some ((-1), u1)) else (bd (f_X0_in p2 0 9999 u1) fun v2 u2 => if v2 = 0 then (some ((-1), u2)) else (if (mI u2 self 15) = 8 then (some ((-1), u2)) else (f_X0_village_L45 self p0 p1 p2 (fun u3 => lt (mR u3 self 0) fun r1 => lt (nx u3 4) fun n1 => lt (mkc u3 4 0 18) fun u4 => bd (f_X4_init n1 (mI u4 self 15) p0 p1 p2 u4) fun v3 u5 => oB r1 fun n2 => ix (mI u3 self 15) (mN u5 n2) (lt (sR u5 n2 (xN (mI u3 self 15)) (some n1)) fun u6 => lt (sI u6 self 15 ((mI u6 self 15) + 1)) fun u7 => bd (f_X0_ways self u7) fun v4 u8 => some (((mI u8 self 15) - 1), u8))) zFu p0 u2)))))
set_option maxHeartbeats 4000000 in
theorem ct_X0_village (self : Nat) (p0 : Int32) (p1 : Int32) (p2 : Int32) (t_self : kd self = 0) : zMet yX0_village cX0_village 5 (some .int) 3 49 rvI (obT) [.ref self, .int p0, .int p1, .int p2] (f_X0_village self p0 p1 p2) := by
  refine zMet_of (A := [(0, .ref self), (1, .int p0), (2, .int p1), (3, .int p2)]) (B := []) (ini := false) RX0 rfl (by decide +kernel) (fun h => by cases h) (by simp [lg_sl, Value.category]) (by simp [lv_args, Value.category]) rfl (by simp [lv_args, Value.category]) fun u => ?_
  unfold f_X0_village
  refine go_iload_n (pc := 0) (j := 1) (i := 1) dX0_village_0 rfl rfl ?_
  refine go_if_lt (pc := 1) (tgt := 40) dX0_village_1 (by decide) (fun h1 => ?_) (fun h1 => ?_)
  · refine go_iconst (pc := 40) (v := (-1)) dX0_village_40 (by decide) ?_
    exact go_ireturn (pc := 41) rfl dX0_village_41
  · refine go_iload_n (pc := 4) (j := 1) (i := 1) dX0_village_4 rfl rfl ?_
    refine go_ldc (pc := 5) (v := 40404040) dX0_village_5 q329 ?_
    refine go_icmp_gt (pc := 7) (tgt := 40) dX0_village_7 (by decide) (fun h2 => ?_) (fun h2 => ?_)
    · refine go_iconst (pc := 40) (v := (-1)) dX0_village_40 (by decide) ?_
      exact go_ireturn (pc := 41) rfl dX0_village_41
    · refine go_iload_n (pc := 10) (j := 2) (i := 2) dX0_village_10 rfl rfl ?_
      refine go_iconst (pc := 11) (v := 1) dX0_village_11 (by decide) ?_
      refine go_bipush (pc := 12) (v := 9) dX0_village_12 (by decide) ?_
      refine go_callSI (pc := 14) (ct_X0_in p1 1 9) lk_X0_116 rfl ⟨by decide, by decide⟩ (Nat.le_of_ble_eq_true rfl) dX0_village_14 rfl fun v1 u1 => ?_
      refine go_if_eq (pc := 17) (tgt := 40) dX0_village_17 (by decide) (fun h3 => ?_) (fun h3 => ?_)
      · refine go_iconst (pc := 40) (v := (-1)) dX0_village_40 (by decide) ?_
        exact go_ireturn (pc := 41) rfl dX0_village_41
      · refine go_iload_n (pc := 20) (j := 3) (i := 3) dX0_village_20 rfl rfl ?_
        refine go_iconst (pc := 21) (v := 0) dX0_village_21 (by decide) ?_
        refine go_sipush (pc := 22) (v := 9999) dX0_village_22 (by decide) ?_
        refine go_callSI (pc := 25) (ct_X0_in p2 0 9999) lk_X0_116 rfl ⟨by decide, by decide⟩ (Nat.le_of_ble_eq_true rfl) dX0_village_25 rfl fun v2 u2 => ?_
        refine go_if_eq (pc := 28) (tgt := 40) dX0_village_28 (by decide) (fun h4 => ?_) (fun h4 => ?_)
        · refine go_iconst (pc := 40) (v := (-1)) dX0_village_40 (by decide) ?_
          exact go_ireturn (pc := 41) rfl dX0_village_41
        · refine go_aload_n (pc := 31) (j := 0) (i := 0) dX0_village_31 rfl rfl ?_
          refine go_getI (pc := 32) (n := self) (ci := 0) (k := 15) fa_X0_112_0 t_self rfl dX0_village_32 ?_
          refine go_bipush (pc := 35) (v := 8) dX0_village_35 (by decide) ?_
          refine go_icmp_ne (pc := 37) (tgt := 42) dX0_village_37 (by decide) (fun h5 => ?_) (fun h5 => ?_)
          · refine go_iconst (pc := 40) (v := (-1)) dX0_village_40 (by decide) ?_
            exact go_ireturn (pc := 41) rfl dX0_village_41
          · refine go_iload_n (pc := 42) (j := 1) (i := 1) dX0_village_42 rfl rfl ?_
            refine go_istore (pc := 43) (i := 4) (A' := [(0, .ref self), (1, .int p0), (2, .int p1), (3, .int p2), (4, .int p0)]) (by decide) rfl rfl rfl dX0_village_43 ?_
            refine go_weak (A' := [(0, .ref self), (1, .int p0), (2, .int p1), (3, .int p2), (4, .int p0)]) (B' := []) ⟨rfl, rfl, rfl, rfl, rfl, trivial⟩ rfl (fun q h => by cases h) (g_X0_village_L45 self p0 p1 p2 _ t_self ?_ zFu p0 u2)
            · intro u3
              refine go_aload_n (pc := 72) (j := 0) (i := 0) dX0_village_72 rfl rfl ?_
              refine go_getR (pc := 73) (n := self) (ci := 0) (k := 0) (t := 17) fa_X0_24_0 t_self rfl dX0_village_73 fun r1 t_r1 => ?_
              refine go_aload_n (pc := 76) (j := 0) (i := 0) dX0_village_76 rfl rfl ?_
              refine go_getI (pc := 77) (n := self) (ci := 0) (k := 15) fa_X0_112_0 t_self rfl dX0_village_77 ?_
              refine go_new (pc := 80) (ci := 4) (σ := 4) (N := 18) na_X0_22 (by decide) (by decide) rfl dX0_village_80 fun n1 u4 t_n1 => ?_
              refine go_dupA (pc := 83) dX0_village_83 ?_
              refine go_aload_n (pc := 84) (j := 0) (i := 0) dX0_village_84 rfl rfl ?_
              refine go_getI (pc := 85) (n := self) (ci := 0) (k := 15) fa_X0_112_0 t_self rfl dX0_village_85 ?_
              refine go_iload_n (pc := 88) (j := 1) (i := 1) dX0_village_88 rfl rfl ?_
              refine go_iload_n (pc := 89) (j := 2) (i := 2) dX0_village_89 rfl rfl ?_
              refine go_iload_n (pc := 90) (j := 3) (i := 3) dX0_village_90 rfl rfl ?_
              refine go_callI (pc := 91) (ct_X4_init n1 (mI u4 self 15) p0 p1 p2 t_n1) lk_X0_130 rfl ⟨by decide, by decide⟩ (by simp [cat_rf, cat_int, cat_ref, cat_long]) dX0_village_91 rfl fun v3 u5 => ?_
              refine go_oB fun n2 e_n2 => ?_
              have t_n2 := t_r1 n2 e_n2
              subst e_n2
              refine go_aast (pc := 94) (ci := 17) (ck := 4) (C := RX4) (T := TX4) (N := 18) (by decide) (by decide) t_n2 t_n1 (by decide) rfl rfl rfl dX0_village_94 fun u6 => ?_
              refine go_aload_n (pc := 95) (j := 0) (i := 0) dX0_village_95 rfl rfl ?_
              refine go_dupA (pc := 96) dX0_village_96 ?_
              refine go_getI (pc := 97) (n := self) (ci := 0) (k := 15) fa_X0_112_0 t_self rfl dX0_village_97 ?_
              refine go_iconst (pc := 100) (v := 1) dX0_village_100 (by decide) ?_
              refine go_iadd (pc := 101) dX0_village_101 ?_
              refine go_putI (pc := 102) (n := self) (ci := 0) (k := 15) (v := ((mI u6 self 15) + 1)) pa_X0_112_0 (fun h => by cases h) t_self rfl zKeep_int dX0_village_102 fun u7 => ?_
              refine go_aload_n (pc := 105) (j := 0) (i := 0) dX0_village_105 rfl rfl ?_
              refine go_callVV (pc := 106) (ci := 0) (ct_X0_ways self t_self) lk_X0_133 rfl rfl rfl (by decide) t_self ⟨by decide, by decide⟩ (Nat.le_of_ble_eq_true rfl) dX0_village_106 rfl fun v4 u8 => ?_
              refine go_aload_n (pc := 109) (j := 0) (i := 0) dX0_village_109 rfl rfl ?_
              refine go_getI (pc := 110) (n := self) (ci := 0) (k := 15) fa_X0_112_0 t_self rfl dX0_village_110 ?_
              refine go_iconst (pc := 113) (v := 1) dX0_village_113 (by decide) ?_
              refine go_isub (pc := 114) dX0_village_114 ?_
              exact go_ireturn (pc := 115) rfl dX0_village_115

def f_X0_findVillage (self : Nat) (p0 : Int32) (u : zM) : Option (Option Nat × zM) := bd (f_X0_in p0 0 ((mI u self 15) - 1) u) fun v1 u1 => if v1 = 0 then (some (none, u1)) else (lt (mR u1 self 0) fun r1 => oB r1 fun n1 => ix p0 (mN u1 n1) (lt (mR u1 n1 (xN p0)) fun r2 => some (r2, u1)))
set_option maxHeartbeats 4000000 in
theorem ct_X0_findVillage (self : Nat) (p0 : Int32) (t_self : kd self = 0) : zMet yX0_findVillage cX0_findVillage 2 (some (.object "WheelLand$Village")) 2 22 rvR (obR 4) [.ref self, .int p0] (f_X0_findVillage self p0) := by
  refine zMet_of (A := [(0, .ref self), (1, .int p0)]) (B := []) (ini := false) RX0 rfl (by decide +kernel) (fun h => by cases h) (by simp [lg_sl, Value.category]) (by simp [lv_args, Value.category]) rfl (by simp [lv_args, Value.category]) fun u => ?_
  unfold f_X0_findVillage
  refine go_iload_n (pc := 0) (j := 1) (i := 1) dX0_findVillage_0 rfl rfl ?_
  refine go_iconst (pc := 1) (v := 0) dX0_findVillage_1 (by decide) ?_
  refine go_aload_n (pc := 2) (j := 0) (i := 0) dX0_findVillage_2 rfl rfl ?_
  refine go_getI (pc := 3) (n := self) (ci := 0) (k := 15) fa_X0_112_0 t_self rfl dX0_findVillage_3 ?_
  refine go_iconst (pc := 6) (v := 1) dX0_findVillage_6 (by decide) ?_
  refine go_isub (pc := 7) dX0_findVillage_7 ?_
  refine go_callSI (pc := 8) (ct_X0_in p0 0 ((mI u self 15) - 1)) lk_X0_116 rfl ⟨by decide, by decide⟩ (Nat.le_of_ble_eq_true rfl) dX0_findVillage_8 rfl fun v1 u1 => ?_
  refine go_if_eq (pc := 11) (tgt := 23) dX0_findVillage_11 (by decide) (fun h1 => ?_) (fun h1 => ?_)
  · refine go_null (pc := 23) dX0_findVillage_23 ?_
    exact go_areturnQ (pc := 24) (r := none) rfl (Or.inl ⟨_, rfl⟩) (fun n h => by cases h) dX0_findVillage_24
  · refine go_aload_n (pc := 14) (j := 0) (i := 0) dX0_findVillage_14 rfl rfl ?_
    refine go_getR (pc := 15) (n := self) (ci := 0) (k := 0) (t := 17) fa_X0_24_0 t_self rfl dX0_findVillage_15 fun r1 t_r1 => ?_
    refine go_iload_n (pc := 18) (j := 1) (i := 1) dX0_findVillage_18 rfl rfl ?_
    refine go_oB fun n1 e_n1 => ?_
    have t_n1 := t_r1 n1 e_n1
    subst e_n1
    refine go_aald (pc := 19) (n := n1) (ci := 17) (t := 4) (by decide) (by decide) t_n1 rfl dX0_findVillage_19 fun r2 t_r2 => ?_
    refine go_goto (pc := 20) (tgt := 24) dX0_findVillage_20 (by decide) ?_
    exact go_areturnQ (pc := 24) (r := r2) rfl (Or.inl ⟨_, rfl⟩) t_r2 dX0_findVillage_24

def f_X0_road (self : Nat) (p0 : Int32) (p1 : Int32) (p2 : Int32) (u : zM) : Option (Int32 × zM) := bd (f_X0_findVillage self p0 u) fun v1 u1 => oC v1 (gb 0 (some (0, u1))) fun n1 => bd (f_X0_findVillage self p1 u1) fun v2 u2 => oC v2 (gb 0 (some (0, u2))) fun n2 => if p0 = p1 then (gb 0 (some (0, u2))) else (bd (f_X0_in p2 1 9 u2) fun v3 u3 => if v3 = 0 then (gb 0 (some (0, u3))) else (lt (mR u3 self 7) fun r1 => oB r1 fun n3 => ix ((8 * p0) + p1) (mN u3 n3) (lt (sI u3 n3 (xN ((8 * p0) + p1)) p2) fun u4 => lt (mR u4 self 7) fun r2 => oB r2 fun n4 => ix ((8 * p1) + p0) (mN u4 n4) (lt (sI u4 n4 (xN ((8 * p1) + p0)) p2) fun u5 => bd (f_X0_ways self u5) fun v4 u6 => gb 1 (some (1, u6))))))
set_option maxHeartbeats 4000000 in
theorem ct_X0_road (self : Nat) (p0 : Int32) (p1 : Int32) (p2 : Int32) (t_self : kd self = 0) : zMet yX0_road cX0_road 4 (some .boolean) 3 49 rvI (obT) [.ref self, .int p0, .int p1, .int p2] (f_X0_road self p0 p1 p2) := by
  refine zMet_of (A := [(0, .ref self), (1, .int p0), (2, .int p1), (3, .int p2)]) (B := []) (ini := false) RX0 rfl (by decide +kernel) (fun h => by cases h) (by simp [lg_sl, Value.category]) (by simp [lv_args, Value.category]) rfl (by simp [lv_args, Value.category]) fun u => ?_
  unfold f_X0_road
  refine go_aload_n (pc := 0) (j := 0) (i := 0) dX0_road_0 rfl rfl ?_
  refine go_iload_n (pc := 1) (j := 1) (i := 1) dX0_road_1 rfl rfl ?_
  refine go_callVR (pc := 2) (ci := 0) (ct_X0_findVillage self p0 t_self) lk_X0_136 rfl rfl rfl (by decide) t_self ⟨by decide, by decide⟩ (Nat.le_of_ble_eq_true rfl) dX0_road_2 rfl fun v1 u1 t_v1 => ?_
  refine go_ifnull (pc := 5) (tgt := 31) dX0_road_5 (by decide) (fun e_n1 => ?_) (fun n1 e_n1 => ?_)
  · subst e_n1
    refine go_iconst (pc := 31) (v := 0) dX0_road_31 (by decide) ?_
    exact go_zreturn (pc := 32) rfl dX0_road_32
  · have t_n1 := t_v1 n1 e_n1
    subst e_n1
    refine go_aload_n (pc := 8) (j := 0) (i := 0) dX0_road_8 rfl rfl ?_
    refine go_iload_n (pc := 9) (j := 2) (i := 2) dX0_road_9 rfl rfl ?_
    refine go_callVR (pc := 10) (ci := 0) (ct_X0_findVillage self p1 t_self) lk_X0_136 rfl rfl rfl (by decide) t_self ⟨by decide, by decide⟩ (Nat.le_of_ble_eq_true rfl) dX0_road_10 rfl fun v2 u2 t_v2 => ?_
    refine go_ifnull (pc := 13) (tgt := 31) dX0_road_13 (by decide) (fun e_n2 => ?_) (fun n2 e_n2 => ?_)
    · subst e_n2
      refine go_iconst (pc := 31) (v := 0) dX0_road_31 (by decide) ?_
      exact go_zreturn (pc := 32) rfl dX0_road_32
    · have t_n2 := t_v2 n2 e_n2
      subst e_n2
      refine go_iload_n (pc := 16) (j := 1) (i := 1) dX0_road_16 rfl rfl ?_
      refine go_iload_n (pc := 17) (j := 2) (i := 2) dX0_road_17 rfl rfl ?_
      refine go_icmp_eq (pc := 18) (tgt := 31) dX0_road_18 (by decide) (fun h1 => ?_) (fun h1 => ?_)
      · refine go_iconst (pc := 31) (v := 0) dX0_road_31 (by decide) ?_
        exact go_zreturn (pc := 32) rfl dX0_road_32
      · refine go_iload_n (pc := 21) (j := 3) (i := 3) dX0_road_21 rfl rfl ?_
        refine go_iconst (pc := 22) (v := 1) dX0_road_22 (by decide) ?_
        refine go_bipush (pc := 23) (v := 9) dX0_road_23 (by decide) ?_
        refine go_callSI (pc := 25) (ct_X0_in p2 1 9) lk_X0_116 rfl ⟨by decide, by decide⟩ (Nat.le_of_ble_eq_true rfl) dX0_road_25 rfl fun v3 u3 => ?_
        refine go_if_ne (pc := 28) (tgt := 33) dX0_road_28 (by decide) (fun h2 => ?_) (fun h2 => ?_)
        · refine go_iconst (pc := 31) (v := 0) dX0_road_31 (by decide) ?_
          exact go_zreturn (pc := 32) rfl dX0_road_32
        · refine go_aload_n (pc := 33) (j := 0) (i := 0) dX0_road_33 rfl rfl ?_
          refine go_getR (pc := 34) (n := self) (ci := 0) (k := 7) (t := 13) fa_X0_59_0 t_self rfl dX0_road_34 fun r1 t_r1 => ?_
          refine go_bipush (pc := 37) (v := 8) dX0_road_37 (by decide) ?_
          refine go_iload_n (pc := 39) (j := 1) (i := 1) dX0_road_39 rfl rfl ?_
          refine go_imul (pc := 40) dX0_road_40 ?_
          refine go_iload_n (pc := 41) (j := 2) (i := 2) dX0_road_41 rfl rfl ?_
          refine go_iadd (pc := 42) dX0_road_42 ?_
          refine go_iload_n (pc := 43) (j := 3) (i := 3) dX0_road_43 rfl rfl ?_
          refine go_oB fun n3 e_n3 => ?_
          have t_n3 := t_r1 n3 e_n3
          subst e_n3
          refine go_iast (pc := 44) t_n3 dX0_road_44 fun u4 => ?_
          refine go_aload_n (pc := 45) (j := 0) (i := 0) dX0_road_45 rfl rfl ?_
          refine go_getR (pc := 46) (n := self) (ci := 0) (k := 7) (t := 13) fa_X0_59_0 t_self rfl dX0_road_46 fun r2 t_r2 => ?_
          refine go_bipush (pc := 49) (v := 8) dX0_road_49 (by decide) ?_
          refine go_iload_n (pc := 51) (j := 2) (i := 2) dX0_road_51 rfl rfl ?_
          refine go_imul (pc := 52) dX0_road_52 ?_
          refine go_iload_n (pc := 53) (j := 1) (i := 1) dX0_road_53 rfl rfl ?_
          refine go_iadd (pc := 54) dX0_road_54 ?_
          refine go_iload_n (pc := 55) (j := 3) (i := 3) dX0_road_55 rfl rfl ?_
          refine go_oB fun n4 e_n4 => ?_
          have t_n4 := t_r2 n4 e_n4
          subst e_n4
          refine go_iast (pc := 56) t_n4 dX0_road_56 fun u5 => ?_
          refine go_aload_n (pc := 57) (j := 0) (i := 0) dX0_road_57 rfl rfl ?_
          refine go_callVV (pc := 58) (ci := 0) (ct_X0_ways self t_self) lk_X0_133 rfl rfl rfl (by decide) t_self ⟨by decide, by decide⟩ (Nat.le_of_ble_eq_true rfl) dX0_road_58 rfl fun v4 u6 => ?_
          refine go_iconst (pc := 61) (v := 1) dX0_road_61 (by decide) ?_
          exact go_zreturn (pc := 62) rfl dX0_road_62

def f_X0_far (self : Nat) (p0 : Int32) (p1 : Int32) (u : zM) : Option (Int32 × zM) := bd (f_X0_findVillage self p0 u) fun v1 u1 => bd (f_X0_findVillage self p1 u1) fun v2 u2 => oC v1 (some ((-1), u2)) fun n1 => oC v2 (some ((-1), u2)) fun n2 => bd (f_X0_farOf self n1 n2 u2) fun v3 u3 => some (v3, u3)
set_option maxHeartbeats 4000000 in
theorem ct_X0_far (self : Nat) (p0 : Int32) (p1 : Int32) (t_self : kd self = 0) : zMet yX0_far cX0_far 5 (some .int) 3 43 rvI (obT) [.ref self, .int p0, .int p1] (f_X0_far self p0 p1) := by
  refine zMet_of (A := [(0, .ref self), (1, .int p0), (2, .int p1)]) (B := []) (ini := false) RX0 rfl (by decide +kernel) (fun h => by cases h) (by simp [lg_sl, Value.category]) (by simp [lv_args, Value.category]) rfl (by simp [lv_args, Value.category]) fun u => ?_
  unfold f_X0_far
  refine go_aload_n (pc := 0) (j := 0) (i := 0) dX0_far_0 rfl rfl ?_
  refine go_iload_n (pc := 1) (j := 1) (i := 1) dX0_far_1 rfl rfl ?_
  refine go_callVR (pc := 2) (ci := 0) (ct_X0_findVillage self p0 t_self) lk_X0_136 rfl rfl rfl (by decide) t_self ⟨by decide, by decide⟩ (Nat.le_of_ble_eq_true rfl) dX0_far_2 rfl fun v1 u1 t_v1 => ?_
  refine go_astore_nQ (pc := 5) (j := 3) (r := v1) (i := 3) (A' := [(0, .ref self), (1, .int p0), (2, .int p1), (3, va_rf v1)]) rfl (by decide) rfl rfl rfl dX0_far_5 ?_
  refine go_aload_n (pc := 6) (j := 0) (i := 0) dX0_far_6 rfl rfl ?_
  refine go_iload_n (pc := 7) (j := 2) (i := 2) dX0_far_7 rfl rfl ?_
  refine go_callVR (pc := 8) (ci := 0) (ct_X0_findVillage self p1 t_self) lk_X0_136 rfl rfl rfl (by decide) t_self ⟨by decide, by decide⟩ (Nat.le_of_ble_eq_true rfl) dX0_far_8 rfl fun v2 u2 t_v2 => ?_
  refine go_astoreQ (pc := 11) (r := v2) (i := 4) (A' := [(0, .ref self), (1, .int p0), (2, .int p1), (3, va_rf v1), (4, va_rf v2)]) (by decide) rfl rfl rfl dX0_far_11 ?_
  refine go_aload_nQ (pc := 13) (j := 3) (r := v1) (i := 3) dX0_far_13 rfl rfl ?_
  refine go_ifnull (pc := 14) (tgt := 22) dX0_far_14 (by decide) (fun e_n1 => ?_) (fun n1 e_n1 => ?_)
  · subst e_n1
    refine go_iconst (pc := 22) (v := (-1)) dX0_far_22 (by decide) ?_
    refine go_goto (pc := 23) (tgt := 33) dX0_far_23 (by decide) ?_
    exact go_ireturn (pc := 33) rfl dX0_far_33
  · have t_n1 := t_v1 n1 e_n1
    subst e_n1
    refine go_aloadQ (pc := 17) (r := v2) (i := 4) dX0_far_17 rfl ?_
    refine go_ifnonnull (pc := 19) (tgt := 26) dX0_far_19 (by decide) (fun e_n2 => ?_) (fun n2 e_n2 => ?_)
    · subst e_n2
      refine go_iconst (pc := 22) (v := (-1)) dX0_far_22 (by decide) ?_
      refine go_goto (pc := 23) (tgt := 33) dX0_far_23 (by decide) ?_
      exact go_ireturn (pc := 33) rfl dX0_far_33
    · have t_n2 := t_v2 n2 e_n2
      subst e_n2
      refine go_aload_n (pc := 26) (j := 0) (i := 0) dX0_far_26 rfl rfl ?_
      refine go_aload_n (pc := 27) (j := 3) (i := 3) dX0_far_27 rfl rfl ?_
      refine go_aload (pc := 28) (i := 4) dX0_far_28 rfl ?_
      refine go_callVI (pc := 30) (ci := 0) (ct_X0_farOf self n1 n2 t_self t_n1 t_n2) lk_X0_147 rfl rfl rfl (by decide) t_self ⟨by decide, by decide⟩ (Nat.le_of_ble_eq_true rfl) dX0_far_30 rfl fun v3 u3 => ?_
      exact go_ireturn (pc := 33) rfl dX0_far_33

def f_X0_house (self : Nat) (p0 : Int32) (p1 : Int32) (u : zM) : Option (Int32 × zM) := bd (f_X0_findVillage self p0 u) fun v1 u1 => oC v1 (some ((-1), u1)) fun n1 => if p1 < 0 then (some ((-1), u1)) else (if 5 < (p1 / 1000) then (some ((-1), u1)) else (if ((p1 / 100) - (p1 / 100) / 10 * 10) = 0 then (some ((-1), u1)) else (if 5 < ((p1 / 10) - (p1 / 10) / 10 * 10) then (some ((-1), u1)) else (if (p1 - p1 / 10 * 10) = 0 then (some ((-1), u1)) else (if (mI u1 self 16) = 20 then (some ((-1), u1)) else (if (mI u1 self 14) = 156 then (some ((-1), u1)) else (lt (mR u1 self 1) fun r1 => lt (nx u1 5) fun n2 => lt (mkc u1 5 0 16) fun u2 => bd (f_X5_init n2 (mI u2 self 16) n1 p1 u2) fun v2 u3 => oB r1 fun n3 => ix (mI u1 self 16) (mN u3 n3) (lt (sR u3 n3 (xN (mI u1 self 16)) (some n2)) fun u4 => lt (sI u4 self 16 ((mI u4 self 16) + 1)) fun u5 => some (((mI u5 self 16) - 1), u5)))))))))
set_option maxHeartbeats 4000000 in
theorem ct_X0_house (self : Nat) (p0 : Int32) (p1 : Int32) (t_self : kd self = 0) : zMet yX0_house cX0_house 4 (some .int) 3 43 rvI (obT) [.ref self, .int p0, .int p1] (f_X0_house self p0 p1) := by
  refine zMet_of (A := [(0, .ref self), (1, .int p0), (2, .int p1)]) (B := []) (ini := false) RX0 rfl (by decide +kernel) (fun h => by cases h) (by simp [lg_sl, Value.category]) (by simp [lv_args, Value.category]) rfl (by simp [lv_args, Value.category]) fun u => ?_
  unfold f_X0_house
  refine go_aload_n (pc := 0) (j := 0) (i := 0) dX0_house_0 rfl rfl ?_
  refine go_iload_n (pc := 1) (j := 1) (i := 1) dX0_house_1 rfl rfl ?_
  refine go_callVR (pc := 2) (ci := 0) (ct_X0_findVillage self p0 t_self) lk_X0_136 rfl rfl rfl (by decide) t_self ⟨by decide, by decide⟩ (Nat.le_of_ble_eq_true rfl) dX0_house_2 rfl fun v1 u1 t_v1 => ?_
  refine go_astore_nQ (pc := 5) (j := 3) (r := v1) (i := 3) (A' := [(0, .ref self), (1, .int p0), (2, .int p1), (3, va_rf v1)]) rfl (by decide) rfl rfl rfl dX0_house_5 ?_
  refine go_aload_nQ (pc := 6) (j := 3) (r := v1) (i := 3) dX0_house_6 rfl rfl ?_
  refine go_ifnull (pc := 7) (tgt := 70) dX0_house_7 (by decide) (fun e_n1 => ?_) (fun n1 e_n1 => ?_)
  · subst e_n1
    refine go_iconst (pc := 70) (v := (-1)) dX0_house_70 (by decide) ?_
    exact go_ireturn (pc := 71) rfl dX0_house_71
  · have t_n1 := t_v1 n1 e_n1
    subst e_n1
    refine go_iload_n (pc := 10) (j := 2) (i := 2) dX0_house_10 rfl rfl ?_
    refine go_if_lt (pc := 11) (tgt := 70) dX0_house_11 (by decide) (fun h1 => ?_) (fun h1 => ?_)
    · refine go_iconst (pc := 70) (v := (-1)) dX0_house_70 (by decide) ?_
      exact go_ireturn (pc := 71) rfl dX0_house_71
    · refine go_iload_n (pc := 14) (j := 2) (i := 2) dX0_house_14 rfl rfl ?_
      refine go_sipush (pc := 15) (v := 1000) dX0_house_15 (by decide) ?_
      refine go_idiv (pc := 18) dX0_house_18 (by decide) ?_
      refine go_iconst (pc := 19) (v := 5) dX0_house_19 (by decide) ?_
      refine go_icmp_gt (pc := 20) (tgt := 70) dX0_house_20 (by decide) (fun h2 => ?_) (fun h2 => ?_)
      · refine go_iconst (pc := 70) (v := (-1)) dX0_house_70 (by decide) ?_
        exact go_ireturn (pc := 71) rfl dX0_house_71
      · refine go_iload_n (pc := 23) (j := 2) (i := 2) dX0_house_23 rfl rfl ?_
        refine go_bipush (pc := 24) (v := 100) dX0_house_24 (by decide) ?_
        refine go_idiv (pc := 26) dX0_house_26 (by decide) ?_
        refine go_bipush (pc := 27) (v := 10) dX0_house_27 (by decide) ?_
        refine go_irem (pc := 29) dX0_house_29 (by decide) ?_
        refine go_if_eq (pc := 30) (tgt := 70) dX0_house_30 (by decide) (fun h3 => ?_) (fun h3 => ?_)
        · refine go_iconst (pc := 70) (v := (-1)) dX0_house_70 (by decide) ?_
          exact go_ireturn (pc := 71) rfl dX0_house_71
        · refine go_iload_n (pc := 33) (j := 2) (i := 2) dX0_house_33 rfl rfl ?_
          refine go_bipush (pc := 34) (v := 10) dX0_house_34 (by decide) ?_
          refine go_idiv (pc := 36) dX0_house_36 (by decide) ?_
          refine go_bipush (pc := 37) (v := 10) dX0_house_37 (by decide) ?_
          refine go_irem (pc := 39) dX0_house_39 (by decide) ?_
          refine go_iconst (pc := 40) (v := 5) dX0_house_40 (by decide) ?_
          refine go_icmp_gt (pc := 41) (tgt := 70) dX0_house_41 (by decide) (fun h4 => ?_) (fun h4 => ?_)
          · refine go_iconst (pc := 70) (v := (-1)) dX0_house_70 (by decide) ?_
            exact go_ireturn (pc := 71) rfl dX0_house_71
          · refine go_iload_n (pc := 44) (j := 2) (i := 2) dX0_house_44 rfl rfl ?_
            refine go_bipush (pc := 45) (v := 10) dX0_house_45 (by decide) ?_
            refine go_irem (pc := 47) dX0_house_47 (by decide) ?_
            refine go_if_eq (pc := 48) (tgt := 70) dX0_house_48 (by decide) (fun h5 => ?_) (fun h5 => ?_)
            · refine go_iconst (pc := 70) (v := (-1)) dX0_house_70 (by decide) ?_
              exact go_ireturn (pc := 71) rfl dX0_house_71
            · refine go_aload_n (pc := 51) (j := 0) (i := 0) dX0_house_51 rfl rfl ?_
              refine go_getI (pc := 52) (n := self) (ci := 0) (k := 16) fa_X0_120_0 t_self rfl dX0_house_52 ?_
              refine go_bipush (pc := 55) (v := 20) dX0_house_55 (by decide) ?_
              refine go_icmp_eq (pc := 57) (tgt := 70) dX0_house_57 (by decide) (fun h6 => ?_) (fun h6 => ?_)
              · refine go_iconst (pc := 70) (v := (-1)) dX0_house_70 (by decide) ?_
                exact go_ireturn (pc := 71) rfl dX0_house_71
              · refine go_aload_n (pc := 60) (j := 0) (i := 0) dX0_house_60 rfl rfl ?_
                refine go_getI (pc := 61) (n := self) (ci := 0) (k := 14) fa_X0_151_0 t_self rfl dX0_house_61 ?_
                refine go_sipush (pc := 64) (v := 156) dX0_house_64 (by decide) ?_
                refine go_icmp_ne (pc := 67) (tgt := 72) dX0_house_67 (by decide) (fun h7 => ?_) (fun h7 => ?_)
                · refine go_iconst (pc := 70) (v := (-1)) dX0_house_70 (by decide) ?_
                  exact go_ireturn (pc := 71) rfl dX0_house_71
                · refine go_aload_n (pc := 72) (j := 0) (i := 0) dX0_house_72 rfl rfl ?_
                  refine go_getR (pc := 73) (n := self) (ci := 0) (k := 1) (t := 18) fa_X0_30_0 t_self rfl dX0_house_73 fun r1 t_r1 => ?_
                  refine go_aload_n (pc := 76) (j := 0) (i := 0) dX0_house_76 rfl rfl ?_
                  refine go_getI (pc := 77) (n := self) (ci := 0) (k := 16) fa_X0_120_0 t_self rfl dX0_house_77 ?_
                  refine go_new (pc := 80) (ci := 5) (σ := 5) (N := 16) na_X0_28 (by decide) (by decide) rfl dX0_house_80 fun n2 u2 t_n2 => ?_
                  refine go_dupA (pc := 83) dX0_house_83 ?_
                  refine go_aload_n (pc := 84) (j := 0) (i := 0) dX0_house_84 rfl rfl ?_
                  refine go_getI (pc := 85) (n := self) (ci := 0) (k := 16) fa_X0_120_0 t_self rfl dX0_house_85 ?_
                  refine go_aload_n (pc := 88) (j := 3) (i := 3) dX0_house_88 rfl rfl ?_
                  refine go_iload_n (pc := 89) (j := 2) (i := 2) dX0_house_89 rfl rfl ?_
                  refine go_callI (pc := 90) (ct_X5_init n2 (mI u2 self 16) n1 p1 t_n2 t_n1) lk_X0_154 rfl ⟨by decide, by decide⟩ (by simp [cat_rf, cat_int, cat_ref, cat_long]) dX0_house_90 rfl fun v2 u3 => ?_
                  refine go_oB fun n3 e_n3 => ?_
                  have t_n3 := t_r1 n3 e_n3
                  subst e_n3
                  refine go_aast (pc := 93) (ci := 18) (ck := 5) (C := RX5) (T := TX5) (N := 16) (by decide) (by decide) t_n3 t_n2 (by decide) rfl rfl rfl dX0_house_93 fun u4 => ?_
                  refine go_aload_n (pc := 94) (j := 0) (i := 0) dX0_house_94 rfl rfl ?_
                  refine go_dupA (pc := 95) dX0_house_95 ?_
                  refine go_getI (pc := 96) (n := self) (ci := 0) (k := 16) fa_X0_120_0 t_self rfl dX0_house_96 ?_
                  refine go_iconst (pc := 99) (v := 1) dX0_house_99 (by decide) ?_
                  refine go_iadd (pc := 100) dX0_house_100 ?_
                  refine go_putI (pc := 101) (n := self) (ci := 0) (k := 16) (v := ((mI u4 self 16) + 1)) pa_X0_120_0 (fun h => by cases h) t_self rfl zKeep_int dX0_house_101 fun u5 => ?_
                  refine go_aload_n (pc := 104) (j := 0) (i := 0) dX0_house_104 rfl rfl ?_
                  refine go_getI (pc := 105) (n := self) (ci := 0) (k := 16) fa_X0_120_0 t_self rfl dX0_house_105 ?_
                  refine go_iconst (pc := 108) (v := 1) dX0_house_108 (by decide) ?_
                  refine go_isub (pc := 109) dX0_house_109 ?_
                  exact go_ireturn (pc := 110) rfl dX0_house_110

def f_X0_isCount (p0 : Int32) (u : zM) : Option (Int32 × zM) := bd (f_X0_in p0 4 60 u) fun v1 u1 => gb v1 (some (v1, u1))
set_option maxHeartbeats 4000000 in
theorem ct_X0_isCount (p0 : Int32) : zMet yX0_isCount cX0_isCount 1 (some .boolean) 2 22 rvI (obT) [.int p0] (f_X0_isCount p0) := by
  refine zMet_of (A := [(0, .int p0)]) (B := []) (ini := false) RX0 rfl (by decide +kernel) (fun h => by cases h) (by simp [lg_sl, Value.category]) (by simp [lv_args, Value.category]) rfl (by simp [lv_args, Value.category]) fun u => ?_
  unfold f_X0_isCount
  refine go_iload_n (pc := 0) (j := 0) (i := 0) dX0_isCount_0 rfl rfl ?_
  refine go_iconst (pc := 1) (v := 4) dX0_isCount_1 (by decide) ?_
  refine go_bipush (pc := 2) (v := 60) dX0_isCount_2 (by decide) ?_
  refine go_callSI (pc := 4) (ct_X0_in p0 4 60) lk_X0_116 rfl ⟨by decide, by decide⟩ (Nat.le_of_ble_eq_true rfl) dX0_isCount_4 rfl fun v1 u1 => ?_
  exact go_zreturn (pc := 7) rfl dX0_isCount_7

def f_X0_loom (self : Nat) (p0 : Int32) (p1 : Int32) (p2 : Int32) (u : zM) : Option (Int32 × zM) := bd (f_X0_findHouse self p0 u) fun v1 u1 => oC v1 (gb 0 (some (0, u1))) fun n1 => lt (mR u1 n1 15) fun r1 => oC r1 (if p1 < 0 then (gb 0 (some (0, u1))) else (bd (f_X0_isCount (p1 / 100) u1) fun v2 u2 => if v2 = 0 then (gb 0 (some (0, u2))) else (bd (f_X0_isCount (p1 - p1 / 100 * 100) u2) fun v3 u3 => if v3 = 0 then (gb 0 (some (0, u3))) else (if (p1 - p1 / 100 * 100) < (p1 / 100) then (gb 0 (some (0, u3))) else (bd (f_X0_in p2 1 40 u3) fun v4 u4 => if v4 = 0 then (gb 0 (some (0, u4))) else (lt (nx u4 6) fun n3 => lt (mkc u4 6 0 4) fun u5 => bd (f_X6_init n3 (p1 / 100) (p1 - p1 / 100 * 100) p2 u5) fun v5 u6 => lt (sR u6 n1 15 (some n3)) fun u7 => gb 1 (some (1, u7)))))))) fun n2 => gb 0 (some (0, u1))
set_option maxHeartbeats 4000000 in
theorem ct_X0_loom (self : Nat) (p0 : Int32) (p1 : Int32) (p2 : Int32) (t_self : kd self = 0) : zMet yX0_loom cX0_loom 5 (some .boolean) 3 43 rvI (obT) [.ref self, .int p0, .int p1, .int p2] (f_X0_loom self p0 p1 p2) := by
  refine zMet_of (A := [(0, .ref self), (1, .int p0), (2, .int p1), (3, .int p2)]) (B := []) (ini := false) RX0 rfl (by decide +kernel) (fun h => by cases h) (by simp [lg_sl, Value.category]) (by simp [lv_args, Value.category]) rfl (by simp [lv_args, Value.category]) fun u => ?_
  unfold f_X0_loom
  refine go_aload_n (pc := 0) (j := 0) (i := 0) dX0_loom_0 rfl rfl ?_
  refine go_iload_n (pc := 1) (j := 1) (i := 1) dX0_loom_1 rfl rfl ?_
  refine go_callVR (pc := 2) (ci := 0) (ct_X0_findHouse self p0 t_self) lk_X0_157 rfl rfl rfl (by decide) t_self ⟨by decide, by decide⟩ (Nat.le_of_ble_eq_true rfl) dX0_loom_2 rfl fun v1 u1 t_v1 => ?_
  refine go_astoreQ (pc := 5) (r := v1) (i := 4) (A' := [(0, .ref self), (1, .int p0), (2, .int p1), (3, .int p2), (4, va_rf v1)]) (by decide) rfl rfl rfl dX0_loom_5 ?_
  refine go_aloadQ (pc := 7) (r := v1) (i := 4) dX0_loom_7 rfl ?_
  refine go_ifnull (pc := 9) (tgt := 65) dX0_loom_9 (by decide) (fun e_n1 => ?_) (fun n1 e_n1 => ?_)
  · subst e_n1
    refine go_iconst (pc := 65) (v := 0) dX0_loom_65 (by decide) ?_
    exact go_zreturn (pc := 66) rfl dX0_loom_66
  · have t_n1 := t_v1 n1 e_n1
    subst e_n1
    refine go_aload (pc := 12) (i := 4) dX0_loom_12 rfl ?_
    refine go_getR (pc := 14) (n := n1) (ci := 5) (k := 15) (t := 6) fa_X0_161_5 t_n1 rfl dX0_loom_14 fun r1 t_r1 => ?_
    refine go_ifnonnull (pc := 17) (tgt := 65) dX0_loom_17 (by decide) (fun e_n2 => ?_) (fun n2 e_n2 => ?_)
    · subst e_n2
      refine go_iload_n (pc := 20) (j := 2) (i := 2) dX0_loom_20 rfl rfl ?_
      refine go_if_lt (pc := 21) (tgt := 65) dX0_loom_21 (by decide) (fun h1 => ?_) (fun h1 => ?_)
      · refine go_iconst (pc := 65) (v := 0) dX0_loom_65 (by decide) ?_
        exact go_zreturn (pc := 66) rfl dX0_loom_66
      · refine go_iload_n (pc := 24) (j := 2) (i := 2) dX0_loom_24 rfl rfl ?_
        refine go_bipush (pc := 25) (v := 100) dX0_loom_25 (by decide) ?_
        refine go_idiv (pc := 27) dX0_loom_27 (by decide) ?_
        refine go_callSI (pc := 28) (ct_X0_isCount (p1 / 100)) lk_X0_165 rfl ⟨by decide, by decide⟩ (Nat.le_of_ble_eq_true rfl) dX0_loom_28 rfl fun v2 u2 => ?_
        refine go_if_eq (pc := 31) (tgt := 65) dX0_loom_31 (by decide) (fun h2 => ?_) (fun h2 => ?_)
        · refine go_iconst (pc := 65) (v := 0) dX0_loom_65 (by decide) ?_
          exact go_zreturn (pc := 66) rfl dX0_loom_66
        · refine go_iload_n (pc := 34) (j := 2) (i := 2) dX0_loom_34 rfl rfl ?_
          refine go_bipush (pc := 35) (v := 100) dX0_loom_35 (by decide) ?_
          refine go_irem (pc := 37) dX0_loom_37 (by decide) ?_
          refine go_callSI (pc := 38) (ct_X0_isCount (p1 - p1 / 100 * 100)) lk_X0_165 rfl ⟨by decide, by decide⟩ (Nat.le_of_ble_eq_true rfl) dX0_loom_38 rfl fun v3 u3 => ?_
          refine go_if_eq (pc := 41) (tgt := 65) dX0_loom_41 (by decide) (fun h3 => ?_) (fun h3 => ?_)
          · refine go_iconst (pc := 65) (v := 0) dX0_loom_65 (by decide) ?_
            exact go_zreturn (pc := 66) rfl dX0_loom_66
          · refine go_iload_n (pc := 44) (j := 2) (i := 2) dX0_loom_44 rfl rfl ?_
            refine go_bipush (pc := 45) (v := 100) dX0_loom_45 (by decide) ?_
            refine go_idiv (pc := 47) dX0_loom_47 (by decide) ?_
            refine go_iload_n (pc := 48) (j := 2) (i := 2) dX0_loom_48 rfl rfl ?_
            refine go_bipush (pc := 49) (v := 100) dX0_loom_49 (by decide) ?_
            refine go_irem (pc := 51) dX0_loom_51 (by decide) ?_
            refine go_icmp_gt (pc := 52) (tgt := 65) dX0_loom_52 (by decide) (fun h4 => ?_) (fun h4 => ?_)
            · refine go_iconst (pc := 65) (v := 0) dX0_loom_65 (by decide) ?_
              exact go_zreturn (pc := 66) rfl dX0_loom_66
            · refine go_iload_n (pc := 55) (j := 3) (i := 3) dX0_loom_55 rfl rfl ?_
              refine go_iconst (pc := 56) (v := 1) dX0_loom_56 (by decide) ?_
              refine go_bipush (pc := 57) (v := 40) dX0_loom_57 (by decide) ?_
              refine go_callSI (pc := 59) (ct_X0_in p2 1 40) lk_X0_116 rfl ⟨by decide, by decide⟩ (Nat.le_of_ble_eq_true rfl) dX0_loom_59 rfl fun v4 u4 => ?_
              refine go_if_ne (pc := 62) (tgt := 67) dX0_loom_62 (by decide) (fun h5 => ?_) (fun h5 => ?_)
              · refine go_iconst (pc := 65) (v := 0) dX0_loom_65 (by decide) ?_
                exact go_zreturn (pc := 66) rfl dX0_loom_66
              · refine go_aload (pc := 67) (i := 4) dX0_loom_67 rfl ?_
                refine go_new (pc := 69) (ci := 6) (σ := 6) (N := 4) na_X0_169 (by decide) (by decide) rfl dX0_loom_69 fun n3 u5 t_n3 => ?_
                refine go_dupA (pc := 72) dX0_loom_72 ?_
                refine go_iload_n (pc := 73) (j := 2) (i := 2) dX0_loom_73 rfl rfl ?_
                refine go_bipush (pc := 74) (v := 100) dX0_loom_74 (by decide) ?_
                refine go_idiv (pc := 76) dX0_loom_76 (by decide) ?_
                refine go_iload_n (pc := 77) (j := 2) (i := 2) dX0_loom_77 rfl rfl ?_
                refine go_bipush (pc := 78) (v := 100) dX0_loom_78 (by decide) ?_
                refine go_irem (pc := 80) dX0_loom_80 (by decide) ?_
                refine go_iload_n (pc := 81) (j := 3) (i := 3) dX0_loom_81 rfl rfl ?_
                refine go_callI (pc := 82) (ct_X6_init n3 (p1 / 100) (p1 - p1 / 100 * 100) p2 t_n3) lk_X0_171 rfl ⟨by decide, by decide⟩ (Nat.le_of_ble_eq_true rfl) dX0_loom_82 rfl fun v5 u6 => ?_
                refine go_putR (pc := 85) (n := n1) (ci := 5) (k := 15) (t := 6) (r := some n3) pa_X0_161_5 (fun h => by cases h) t_n1 rfl (Or.inl ⟨_, rfl⟩) (fun n h => by cases h; exact t_n3) dX0_loom_85 fun u7 => ?_
                refine go_iconst (pc := 88) (v := 1) dX0_loom_88 (by decide) ?_
                exact go_zreturn (pc := 89) rfl dX0_loom_89
    · have t_n2 := t_r1 n2 e_n2
      subst e_n2
      refine go_iconst (pc := 65) (v := 0) dX0_loom_65 (by decide) ?_
      exact go_zreturn (pc := 66) rfl dX0_loom_66

