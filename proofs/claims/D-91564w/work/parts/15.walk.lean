set_option maxRecDepth 100000
def f_X0_aim (self : Nat) (p0 : Int32) (p1 : Int32) (u : zM) : Option (Int32 × zM) := bd (f_X0_findHouse self p0 u) fun v1 u1 => oC v1 (gb 0 (some (0, u1))) fun n1 => bd (f_X0_isCount p1 u1) fun v2 u2 => if v2 = 0 then (gb 0 (some (0, u2))) else (lt (sI u2 n1 7 p1) fun u3 => gb 1 (some (1, u3)))
set_option maxHeartbeats 4000000 in
theorem ct_X0_aim (self : Nat) (p0 : Int32) (p1 : Int32) (t_self : kd self = 0) : zMet yX0_aim cX0_aim 4 (some .boolean) 3 43 rvI (obT) [.ref self, .int p0, .int p1] (f_X0_aim self p0 p1) := by
  refine zMet_of (A := [(0, .ref self), (1, .int p0), (2, .int p1)]) (B := []) (ini := false) RX0 rfl (by decide +kernel) (fun h => by cases h) (by simp [lg_sl, Value.category]) (by simp [lv_args, Value.category]) rfl (by simp [lv_args, Value.category]) fun u => ?_
  unfold f_X0_aim
  refine go_aload_n (pc := 0) (j := 0) (i := 0) dX0_aim_0 rfl rfl ?_
  refine go_iload_n (pc := 1) (j := 1) (i := 1) dX0_aim_1 rfl rfl ?_
  refine go_callVR (pc := 2) (ci := 0) (ct_X0_findHouse self p0 t_self) lk_X0_157 rfl rfl rfl (by decide) t_self ⟨by decide, by decide⟩ (Nat.le_of_ble_eq_true rfl) dX0_aim_2 rfl fun v1 u1 t_v1 => ?_
  refine go_astore_nQ (pc := 5) (j := 3) (r := v1) (i := 3) (A' := [(0, .ref self), (1, .int p0), (2, .int p1), (3, va_rf v1)]) rfl (by decide) rfl rfl rfl dX0_aim_5 ?_
  refine go_aload_nQ (pc := 6) (j := 3) (r := v1) (i := 3) dX0_aim_6 rfl rfl ?_
  refine go_ifnull (pc := 7) (tgt := 17) dX0_aim_7 (by decide) (fun e_n1 => ?_) (fun n1 e_n1 => ?_)
  · subst e_n1
    refine go_iconst (pc := 17) (v := 0) dX0_aim_17 (by decide) ?_
    exact go_zreturn (pc := 18) rfl dX0_aim_18
  · have t_n1 := t_v1 n1 e_n1
    subst e_n1
    refine go_iload_n (pc := 10) (j := 2) (i := 2) dX0_aim_10 rfl rfl ?_
    refine go_callSI (pc := 11) (ct_X0_isCount p1) lk_X0_165 rfl ⟨by decide, by decide⟩ (Nat.le_of_ble_eq_true rfl) dX0_aim_11 rfl fun v2 u2 => ?_
    refine go_if_ne (pc := 14) (tgt := 19) dX0_aim_14 (by decide) (fun h1 => ?_) (fun h1 => ?_)
    · refine go_iconst (pc := 17) (v := 0) dX0_aim_17 (by decide) ?_
      exact go_zreturn (pc := 18) rfl dX0_aim_18
    · refine go_aload_n (pc := 19) (j := 3) (i := 3) dX0_aim_19 rfl rfl ?_
      refine go_iload_n (pc := 20) (j := 2) (i := 2) dX0_aim_20 rfl rfl ?_
      refine go_putI (pc := 21) (n := n1) (ci := 5) (k := 7) (v := p1) pa_X0_173_5 (fun h => by cases h) t_n1 rfl zKeep_int dX0_aim_21 fun u3 => ?_
      refine go_iconst (pc := 24) (v := 1) dX0_aim_24 (by decide) ?_
      exact go_zreturn (pc := 25) rfl dX0_aim_25

def f_X0_coins (self : Nat) (p0 : Int32) (p1 : Int32) (u : zM) : Option (Int32 × zM) := bd (f_X0_findHouse self p0 u) fun v1 u1 => oC v1 (some ((-2147483648), u1)) fun n1 => bd (f_X0_in p1 (-9999) 9999 u1) fun v2 u2 => if v2 = 0 then (some ((-2147483648), u2)) else (lt (sI u2 n1 6 ((mI u2 n1 6) + p1)) fun u3 => some ((mI u3 n1 6), u3))
set_option maxHeartbeats 4000000 in
theorem ct_X0_coins (self : Nat) (p0 : Int32) (p1 : Int32) (t_self : kd self = 0) : zMet yX0_coins cX0_coins 4 (some .int) 3 43 rvI (obT) [.ref self, .int p0, .int p1] (f_X0_coins self p0 p1) := by
  refine zMet_of (A := [(0, .ref self), (1, .int p0), (2, .int p1)]) (B := []) (ini := false) RX0 rfl (by decide +kernel) (fun h => by cases h) (by simp [lg_sl, Value.category]) (by simp [lv_args, Value.category]) rfl (by simp [lv_args, Value.category]) fun u => ?_
  unfold f_X0_coins
  refine go_aload_n (pc := 0) (j := 0) (i := 0) dX0_coins_0 rfl rfl ?_
  refine go_iload_n (pc := 1) (j := 1) (i := 1) dX0_coins_1 rfl rfl ?_
  refine go_callVR (pc := 2) (ci := 0) (ct_X0_findHouse self p0 t_self) lk_X0_157 rfl rfl rfl (by decide) t_self ⟨by decide, by decide⟩ (Nat.le_of_ble_eq_true rfl) dX0_coins_2 rfl fun v1 u1 t_v1 => ?_
  refine go_astore_nQ (pc := 5) (j := 3) (r := v1) (i := 3) (A' := [(0, .ref self), (1, .int p0), (2, .int p1), (3, va_rf v1)]) rfl (by decide) rfl rfl rfl dX0_coins_5 ?_
  refine go_aload_nQ (pc := 6) (j := 3) (r := v1) (i := 3) dX0_coins_6 rfl rfl ?_
  refine go_ifnull (pc := 7) (tgt := 23) dX0_coins_7 (by decide) (fun e_n1 => ?_) (fun n1 e_n1 => ?_)
  · subst e_n1
    refine go_ldc (pc := 23) (v := (-2147483648)) dX0_coins_23 q541 ?_
    exact go_ireturn (pc := 25) rfl dX0_coins_25
  · have t_n1 := t_v1 n1 e_n1
    subst e_n1
    refine go_iload_n (pc := 10) (j := 2) (i := 2) dX0_coins_10 rfl rfl ?_
    refine go_sipush (pc := 11) (v := (-9999)) dX0_coins_11 (by decide) ?_
    refine go_sipush (pc := 14) (v := 9999) dX0_coins_14 (by decide) ?_
    refine go_callSI (pc := 17) (ct_X0_in p1 (-9999) 9999) lk_X0_116 rfl ⟨by decide, by decide⟩ (Nat.le_of_ble_eq_true rfl) dX0_coins_17 rfl fun v2 u2 => ?_
    refine go_if_ne (pc := 20) (tgt := 26) dX0_coins_20 (by decide) (fun h1 => ?_) (fun h1 => ?_)
    · refine go_ldc (pc := 23) (v := (-2147483648)) dX0_coins_23 q541 ?_
      exact go_ireturn (pc := 25) rfl dX0_coins_25
    · refine go_aload_n (pc := 26) (j := 3) (i := 3) dX0_coins_26 rfl rfl ?_
      refine go_dupA (pc := 27) dX0_coins_27 ?_
      refine go_getI (pc := 28) (n := n1) (ci := 5) (k := 6) fa_X0_177_5 t_n1 rfl dX0_coins_28 ?_
      refine go_iload_n (pc := 31) (j := 2) (i := 2) dX0_coins_31 rfl rfl ?_
      refine go_iadd (pc := 32) dX0_coins_32 ?_
      refine go_putI (pc := 33) (n := n1) (ci := 5) (k := 6) (v := ((mI u2 n1 6) + p1)) pa_X0_177_5 (fun h => by cases h) t_n1 rfl zKeep_int dX0_coins_33 fun u3 => ?_
      refine go_aload_n (pc := 36) (j := 3) (i := 3) dX0_coins_36 rfl rfl ?_
      refine go_getI (pc := 37) (n := n1) (ci := 5) (k := 6) fa_X0_177_5 t_n1 rfl dX0_coins_37 ?_
      exact go_ireturn (pc := 40) rfl dX0_coins_40

def f_X0_cotton (self : Nat) (p0 : Int32) (p1 : Int32) (u : zM) : Option (Int32 × zM) := bd (f_X0_findVillage self p0 u) fun v1 u1 => oC v1 (some ((-1), u1)) fun n1 => bd (f_X0_in p1 1 999 u1) fun v2 u2 => if v2 = 0 then (some ((-1), u2)) else (if ((mI u2 n1 4) + p1) ≤ 9999 then (lt (sI u2 n1 4 ((mI u2 n1 4) + p1)) fun u3 => some ((mI u3 n1 4), u3)) else (some ((-1), u2)))
set_option maxHeartbeats 4000000 in
theorem ct_X0_cotton (self : Nat) (p0 : Int32) (p1 : Int32) (t_self : kd self = 0) : zMet yX0_cotton cX0_cotton 4 (some .int) 3 43 rvI (obT) [.ref self, .int p0, .int p1] (f_X0_cotton self p0 p1) := by
  refine zMet_of (A := [(0, .ref self), (1, .int p0), (2, .int p1)]) (B := []) (ini := false) RX0 rfl (by decide +kernel) (fun h => by cases h) (by simp [lg_sl, Value.category]) (by simp [lv_args, Value.category]) rfl (by simp [lv_args, Value.category]) fun u => ?_
  unfold f_X0_cotton
  refine go_aload_n (pc := 0) (j := 0) (i := 0) dX0_cotton_0 rfl rfl ?_
  refine go_iload_n (pc := 1) (j := 1) (i := 1) dX0_cotton_1 rfl rfl ?_
  refine go_callVR (pc := 2) (ci := 0) (ct_X0_findVillage self p0 t_self) lk_X0_136 rfl rfl rfl (by decide) t_self ⟨by decide, by decide⟩ (Nat.le_of_ble_eq_true rfl) dX0_cotton_2 rfl fun v1 u1 t_v1 => ?_
  refine go_astore_nQ (pc := 5) (j := 3) (r := v1) (i := 3) (A' := [(0, .ref self), (1, .int p0), (2, .int p1), (3, va_rf v1)]) rfl (by decide) rfl rfl rfl dX0_cotton_5 ?_
  refine go_aload_nQ (pc := 6) (j := 3) (r := v1) (i := 3) dX0_cotton_6 rfl rfl ?_
  refine go_ifnull (pc := 7) (tgt := 33) dX0_cotton_7 (by decide) (fun e_n1 => ?_) (fun n1 e_n1 => ?_)
  · subst e_n1
    refine go_iconst (pc := 33) (v := (-1)) dX0_cotton_33 (by decide) ?_
    exact go_ireturn (pc := 34) rfl dX0_cotton_34
  · have t_n1 := t_v1 n1 e_n1
    subst e_n1
    refine go_iload_n (pc := 10) (j := 2) (i := 2) dX0_cotton_10 rfl rfl ?_
    refine go_iconst (pc := 11) (v := 1) dX0_cotton_11 (by decide) ?_
    refine go_sipush (pc := 12) (v := 999) dX0_cotton_12 (by decide) ?_
    refine go_callSI (pc := 15) (ct_X0_in p1 1 999) lk_X0_116 rfl ⟨by decide, by decide⟩ (Nat.le_of_ble_eq_true rfl) dX0_cotton_15 rfl fun v2 u2 => ?_
    refine go_if_eq (pc := 18) (tgt := 33) dX0_cotton_18 (by decide) (fun h1 => ?_) (fun h1 => ?_)
    · refine go_iconst (pc := 33) (v := (-1)) dX0_cotton_33 (by decide) ?_
      exact go_ireturn (pc := 34) rfl dX0_cotton_34
    · refine go_aload_n (pc := 21) (j := 3) (i := 3) dX0_cotton_21 rfl rfl ?_
      refine go_getI (pc := 22) (n := n1) (ci := 4) (k := 4) fa_X0_180_4 t_n1 rfl dX0_cotton_22 ?_
      refine go_iload_n (pc := 25) (j := 2) (i := 2) dX0_cotton_25 rfl rfl ?_
      refine go_iadd (pc := 26) dX0_cotton_26 ?_
      refine go_sipush (pc := 27) (v := 9999) dX0_cotton_27 (by decide) ?_
      refine go_icmp_le (pc := 30) (tgt := 35) dX0_cotton_30 (by decide) (fun h2 => ?_) (fun h2 => ?_)
      · refine go_aload_n (pc := 35) (j := 3) (i := 3) dX0_cotton_35 rfl rfl ?_
        refine go_dupA (pc := 36) dX0_cotton_36 ?_
        refine go_getI (pc := 37) (n := n1) (ci := 4) (k := 4) fa_X0_180_4 t_n1 rfl dX0_cotton_37 ?_
        refine go_iload_n (pc := 40) (j := 2) (i := 2) dX0_cotton_40 rfl rfl ?_
        refine go_iadd (pc := 41) dX0_cotton_41 ?_
        refine go_putI (pc := 42) (n := n1) (ci := 4) (k := 4) (v := ((mI u2 n1 4) + p1)) pa_X0_180_4 (fun h => by cases h) t_n1 rfl zKeep_int dX0_cotton_42 fun u3 => ?_
        refine go_aload_n (pc := 45) (j := 3) (i := 3) dX0_cotton_45 rfl rfl ?_
        refine go_getI (pc := 46) (n := n1) (ci := 4) (k := 4) fa_X0_180_4 t_n1 rfl dX0_cotton_46 ?_
        exact go_ireturn (pc := 49) rfl dX0_cotton_49
      · refine go_iconst (pc := 33) (v := (-1)) dX0_cotton_33 (by decide) ?_
        exact go_ireturn (pc := 34) rfl dX0_cotton_34

def f_X0_hanksOf (p0 : Int32) (p1 : Int32) (p2 : Int32) (p3 : Int32) (u : zM) : Option (Int32 × zM) := gz (p2 + 20) (some ((if (p3 * p2) < ((p0 * (10 + p1)) / (p2 + 20)) then (p3 * p2) else ((p0 * (10 + p1)) / (p2 + 20))), u))
set_option maxHeartbeats 4000000 in
theorem ct_X0_hanksOf (p0 : Int32) (p1 : Int32) (p2 : Int32) (p3 : Int32) : zMet yX0_hanksOf cX0_hanksOf 4 (some .int) 1 40 rvI (obT) [.int p0, .int p1, .int p2, .int p3] (f_X0_hanksOf p0 p1 p2 p3) := by
  refine zMet_of (A := [(0, .int p0), (1, .int p1), (2, .int p2), (3, .int p3)]) (B := []) (ini := false) RX0 rfl (by decide +kernel) (fun h => by cases h) (by simp [lg_sl, Value.category]) (by simp [lv_args, Value.category]) rfl (by simp [lv_args, Value.category]) fun u => ?_
  unfold f_X0_hanksOf
  refine go_iload_n (pc := 0) (j := 0) (i := 0) dX0_hanksOf_0 rfl rfl ?_
  refine go_bipush (pc := 1) (v := 10) dX0_hanksOf_1 (by decide) ?_
  refine go_iload_n (pc := 3) (j := 1) (i := 1) dX0_hanksOf_3 rfl rfl ?_
  refine go_iadd (pc := 4) dX0_hanksOf_4 ?_
  refine go_imul (pc := 5) dX0_hanksOf_5 ?_
  refine go_iload_n (pc := 6) (j := 2) (i := 2) dX0_hanksOf_6 rfl rfl ?_
  refine go_bipush (pc := 7) (v := 20) dX0_hanksOf_7 (by decide) ?_
  refine go_iadd (pc := 9) dX0_hanksOf_9 ?_
  refine go_gz fun h1 => ?_
  refine go_idiv (pc := 10) dX0_hanksOf_10 h1 ?_
  refine go_iload_n (pc := 11) (j := 3) (i := 3) dX0_hanksOf_11 rfl rfl ?_
  refine go_iload_n (pc := 12) (j := 2) (i := 2) dX0_hanksOf_12 rfl rfl ?_
  refine go_imul (pc := 13) dX0_hanksOf_13 ?_
  refine go_mminI (pc := 14) dX0_hanksOf_14 q568 q569 q102 q570 (by decide) (Nat.le_of_ble_eq_true rfl) ?_
  exact go_ireturn (pc := 17) rfl dX0_hanksOf_17

def f_X0_spins (self : Nat) (p0 : Nat) (u : zM) : Option (Unit × zM) := bd (f_X5_hours p0 (mI u self 14) u) fun v1 u1 => lt (sI u1 p0 14 ((mI u1 p0 14) + ((v1 * (10 + (mI u1 p0 5))) / 24))) fun u2 => lt (mR u2 p0 3) fun r1 => oB r1 fun n1 => bd (f_X0_hanksOf v1 (mI u2 p0 5) (mI u2 p0 7) (mI u2 n1 4) u2) fun v2 u3 => if v2 = 0 then (some ((), u3)) else (if (mI u3 self 17) = 300 then (some ((), u3)) else (lt (mR u3 self 2) fun r2 => lt (nx u3 8) fun n2 => lt (mkc u3 8 0 7) fun u4 => bd (f_X8_init n2 (mI u4 self 17) p0 (mI u4 self 14) v2 u4) fun v3 u5 => oB r2 fun n3 => ix (mI u3 self 17) (mN u5 n3) (lt (sR u5 n3 (xN (mI u3 self 17)) (some n2)) fun u6 => lt (sI u6 self 17 ((mI u6 self 17) + 1)) fun u7 => lt (mR u7 p0 3) fun r3 => oB r3 fun n4 => bd (f_X0_begun v2 (mI u7 p0 7) u7) fun v4 u8 => lt (sI u8 n4 4 ((mI u7 n4 4) - v4)) fun u9 => lt (sI u9 self 26 ((mI u9 self 26) + v2)) fun u10 => lt (sI u10 self 25 ((mI u10 self 25) + v2)) fun u11 => some ((), u11))))
set_option maxHeartbeats 4000000 in
theorem ct_X0_spins (self : Nat) (p0 : Nat) (t_self : kd self = 0) (t_p0 : kd p0 = 5) : zMet yX0_spins cX0_spins 4 (none) 3 84 rvV (obT) [.ref self, .ref p0] (f_X0_spins self p0) := by
  refine zMet_of (A := [(0, .ref self), (1, .ref p0)]) (B := []) (ini := false) RX0 rfl (by decide +kernel) (fun h => by cases h) (by simp [lg_sl, Value.category]) (by simp [lv_args, Value.category]) rfl (by simp [lv_args, Value.category]) fun u => ?_
  unfold f_X0_spins
  refine go_aload_n (pc := 0) (j := 1) (i := 1) dX0_spins_0 rfl rfl ?_
  refine go_aload_n (pc := 1) (j := 0) (i := 0) dX0_spins_1 rfl rfl ?_
  refine go_getI (pc := 2) (n := self) (ci := 0) (k := 14) fa_X0_151_0 t_self rfl dX0_spins_2 ?_
  refine go_callVI (pc := 5) (ci := 5) (ct_X5_hours p0 (mI u self 14) t_p0) lk_X0_230 rfl rfl rfl (by decide) t_p0 ⟨by decide, by decide⟩ (Nat.le_of_ble_eq_true rfl) dX0_spins_5 rfl fun v1 u1 => ?_
  refine go_istore_n (pc := 8) (j := 2) (i := 2) (A' := [(0, .ref self), (1, .ref p0), (2, .int v1)]) rfl (by decide) rfl rfl rfl dX0_spins_8 ?_
  refine go_aload_n (pc := 9) (j := 1) (i := 1) dX0_spins_9 rfl rfl ?_
  refine go_dupA (pc := 10) dX0_spins_10 ?_
  refine go_getI (pc := 11) (n := p0) (ci := 5) (k := 14) fa_X0_234_5 t_p0 rfl dX0_spins_11 ?_
  refine go_iload_n (pc := 14) (j := 2) (i := 2) dX0_spins_14 rfl rfl ?_
  refine go_bipush (pc := 15) (v := 10) dX0_spins_15 (by decide) ?_
  refine go_aload_n (pc := 17) (j := 1) (i := 1) dX0_spins_17 rfl rfl ?_
  refine go_getI (pc := 18) (n := p0) (ci := 5) (k := 5) fa_X0_237_5 t_p0 rfl dX0_spins_18 ?_
  refine go_iadd (pc := 21) dX0_spins_21 ?_
  refine go_imul (pc := 22) dX0_spins_22 ?_
  refine go_bipush (pc := 23) (v := 24) dX0_spins_23 (by decide) ?_
  refine go_idiv (pc := 25) dX0_spins_25 (by decide) ?_
  refine go_iadd (pc := 26) dX0_spins_26 ?_
  refine go_putI (pc := 27) (n := p0) (ci := 5) (k := 14) (v := ((mI u1 p0 14) + ((v1 * (10 + (mI u1 p0 5))) / 24))) pa_X0_234_5 (fun h => by cases h) t_p0 rfl zKeep_int dX0_spins_27 fun u2 => ?_
  refine go_iload_n (pc := 30) (j := 2) (i := 2) dX0_spins_30 rfl rfl ?_
  refine go_aload_n (pc := 31) (j := 1) (i := 1) dX0_spins_31 rfl rfl ?_
  refine go_getI (pc := 32) (n := p0) (ci := 5) (k := 5) fa_X0_237_5 t_p0 rfl dX0_spins_32 ?_
  refine go_aload_n (pc := 35) (j := 1) (i := 1) dX0_spins_35 rfl rfl ?_
  refine go_getI (pc := 36) (n := p0) (ci := 5) (k := 7) fa_X0_173_5 t_p0 rfl dX0_spins_36 ?_
  refine go_aload_n (pc := 39) (j := 1) (i := 1) dX0_spins_39 rfl rfl ?_
  refine go_getR (pc := 40) (n := p0) (ci := 5) (k := 3) (t := 4) fa_X0_240_5 t_p0 rfl dX0_spins_40 fun r1 t_r1 => ?_
  refine go_oB fun n1 e_n1 => ?_
  have t_n1 := t_r1 n1 e_n1
  subst e_n1
  refine go_getI (pc := 43) (n := n1) (ci := 4) (k := 4) fa_X0_180_4 t_n1 rfl dX0_spins_43 ?_
  refine go_callSI (pc := 46) (ct_X0_hanksOf v1 (mI u2 p0 5) (mI u2 p0 7) (mI u2 n1 4)) lk_X0_244 rfl ⟨by decide, by decide⟩ (Nat.le_of_ble_eq_true rfl) dX0_spins_46 rfl fun v2 u3 => ?_
  refine go_istore_n (pc := 49) (j := 3) (i := 3) (A' := [(0, .ref self), (1, .ref p0), (2, .int v1), (3, .int v2)]) rfl (by decide) rfl rfl rfl dX0_spins_49 ?_
  refine go_iload_n (pc := 50) (j := 3) (i := 3) dX0_spins_50 rfl rfl ?_
  refine go_if_eq (pc := 51) (tgt := 64) dX0_spins_51 (by decide) (fun h1 => ?_) (fun h1 => ?_)
  · exact go_vreturn (pc := 64) rfl dX0_spins_64
  · refine go_aload_n (pc := 54) (j := 0) (i := 0) dX0_spins_54 rfl rfl ?_
    refine go_getI (pc := 55) (n := self) (ci := 0) (k := 17) fa_X0_123_0 t_self rfl dX0_spins_55 ?_
    refine go_sipush (pc := 58) (v := 300) dX0_spins_58 (by decide) ?_
    refine go_icmp_ne (pc := 61) (tgt := 65) dX0_spins_61 (by decide) (fun h2 => ?_) (fun h2 => ?_)
    · exact go_vreturn (pc := 64) rfl dX0_spins_64
    · refine go_aload_n (pc := 65) (j := 0) (i := 0) dX0_spins_65 rfl rfl ?_
      refine go_getR (pc := 66) (n := self) (ci := 0) (k := 2) (t := 19) fa_X0_36_0 t_self rfl dX0_spins_66 fun r2 t_r2 => ?_
      refine go_aload_n (pc := 69) (j := 0) (i := 0) dX0_spins_69 rfl rfl ?_
      refine go_getI (pc := 70) (n := self) (ci := 0) (k := 17) fa_X0_123_0 t_self rfl dX0_spins_70 ?_
      refine go_new (pc := 73) (ci := 8) (σ := 8) (N := 7) na_X0_34 (by decide) (by decide) rfl dX0_spins_73 fun n2 u4 t_n2 => ?_
      refine go_dupA (pc := 76) dX0_spins_76 ?_
      refine go_aload_n (pc := 77) (j := 0) (i := 0) dX0_spins_77 rfl rfl ?_
      refine go_getI (pc := 78) (n := self) (ci := 0) (k := 17) fa_X0_123_0 t_self rfl dX0_spins_78 ?_
      refine go_aload_n (pc := 81) (j := 1) (i := 1) dX0_spins_81 rfl rfl ?_
      refine go_aload_n (pc := 82) (j := 0) (i := 0) dX0_spins_82 rfl rfl ?_
      refine go_getI (pc := 83) (n := self) (ci := 0) (k := 14) fa_X0_151_0 t_self rfl dX0_spins_83 ?_
      refine go_iload_n (pc := 86) (j := 3) (i := 3) dX0_spins_86 rfl rfl ?_
      refine go_callI (pc := 87) (ct_X8_init n2 (mI u4 self 17) p0 (mI u4 self 14) v2 t_n2 t_p0) lk_X0_248 rfl ⟨by decide, by decide⟩ (by simp [cat_rf, cat_int, cat_ref, cat_long]) dX0_spins_87 rfl fun v3 u5 => ?_
      refine go_oB fun n3 e_n3 => ?_
      have t_n3 := t_r2 n3 e_n3
      subst e_n3
      refine go_aast (pc := 90) (ci := 19) (ck := 8) (C := RX8) (T := TX8) (N := 7) (by decide) (by decide) t_n3 t_n2 (by decide) rfl rfl rfl dX0_spins_90 fun u6 => ?_
      refine go_aload_n (pc := 91) (j := 0) (i := 0) dX0_spins_91 rfl rfl ?_
      refine go_dupA (pc := 92) dX0_spins_92 ?_
      refine go_getI (pc := 93) (n := self) (ci := 0) (k := 17) fa_X0_123_0 t_self rfl dX0_spins_93 ?_
      refine go_iconst (pc := 96) (v := 1) dX0_spins_96 (by decide) ?_
      refine go_iadd (pc := 97) dX0_spins_97 ?_
      refine go_putI (pc := 98) (n := self) (ci := 0) (k := 17) (v := ((mI u6 self 17) + 1)) pa_X0_123_0 (fun h => by cases h) t_self rfl zKeep_int dX0_spins_98 fun u7 => ?_
      refine go_aload_n (pc := 101) (j := 1) (i := 1) dX0_spins_101 rfl rfl ?_
      refine go_getR (pc := 102) (n := p0) (ci := 5) (k := 3) (t := 4) fa_X0_240_5 t_p0 rfl dX0_spins_102 fun r3 t_r3 => ?_
      refine go_oB fun n4 e_n4 => ?_
      have t_n4 := t_r3 n4 e_n4
      subst e_n4
      refine go_dupA (pc := 105) dX0_spins_105 ?_
      refine go_getI (pc := 106) (n := n4) (ci := 4) (k := 4) fa_X0_180_4 t_n4 rfl dX0_spins_106 ?_
      refine go_iload_n (pc := 109) (j := 3) (i := 3) dX0_spins_109 rfl rfl ?_
      refine go_aload_n (pc := 110) (j := 1) (i := 1) dX0_spins_110 rfl rfl ?_
      refine go_getI (pc := 111) (n := p0) (ci := 5) (k := 7) fa_X0_173_5 t_p0 rfl dX0_spins_111 ?_
      refine go_callSI (pc := 114) (ct_X0_begun v2 (mI u7 p0 7)) lk_X0_251 rfl ⟨by decide, by decide⟩ (Nat.le_of_ble_eq_true rfl) dX0_spins_114 rfl fun v4 u8 => ?_
      refine go_isub (pc := 117) dX0_spins_117 ?_
      refine go_putI (pc := 118) (n := n4) (ci := 4) (k := 4) (v := ((mI u7 n4 4) - v4)) pa_X0_180_4 (fun h => by cases h) t_n4 rfl zKeep_int dX0_spins_118 fun u9 => ?_
      refine go_aload_n (pc := 121) (j := 0) (i := 0) dX0_spins_121 rfl rfl ?_
      refine go_dupA (pc := 122) dX0_spins_122 ?_
      refine go_getI (pc := 123) (n := self) (ci := 0) (k := 26) fa_X0_186_0 t_self rfl dX0_spins_123 ?_
      refine go_iload_n (pc := 126) (j := 3) (i := 3) dX0_spins_126 rfl rfl ?_
      refine go_iadd (pc := 127) dX0_spins_127 ?_
      refine go_putI (pc := 128) (n := self) (ci := 0) (k := 26) (v := ((mI u9 self 26) + v2)) pa_X0_186_0 (fun h => by cases h) t_self rfl zKeep_int dX0_spins_128 fun u10 => ?_
      refine go_aload_n (pc := 131) (j := 0) (i := 0) dX0_spins_131 rfl rfl ?_
      refine go_dupA (pc := 132) dX0_spins_132 ?_
      refine go_getI (pc := 133) (n := self) (ci := 0) (k := 25) fa_X0_254_0 t_self rfl dX0_spins_133 ?_
      refine go_iload_n (pc := 136) (j := 3) (i := 3) dX0_spins_136 rfl rfl ?_
      refine go_iadd (pc := 137) dX0_spins_137 ?_
      refine go_putI (pc := 138) (n := self) (ci := 0) (k := 25) (v := ((mI u10 self 25) + v2)) pa_X0_254_0 (fun h => by cases h) t_self rfl zKeep_int dX0_spins_138 fun u11 => ?_
      exact go_vreturn (pc := 141) rfl dX0_spins_141

def f_X0_dutyAt (self : Nat) (p0 : Nat) (u : zM) : Option (Int32 × zM) := bd (f_X0_clears self (mI u self 14) u) fun v1 u1 => lt (mR u1 self 9) fun r1 => oB r1 fun n1 => ix 12 (mN u1 n1) (lt (sI u1 n1 (xN 12) (mI u1 p0 9)) fun u2 => bd (f_X0_value self 2 u2) fun v2 u3 => some ((if 0 < v2 then v2 else 0), u3))
set_option maxHeartbeats 4000000 in
theorem ct_X0_dutyAt (self : Nat) (p0 : Nat) (t_self : kd self = 0) (t_p0 : kd p0 = 4) : zMet yX0_dutyAt cX0_dutyAt 2 (some .int) 5 129 rvI (obT) [.ref self, .ref p0] (f_X0_dutyAt self p0) := by
  refine zMet_of (A := [(0, .ref self), (1, .ref p0)]) (B := []) (ini := false) RX0 rfl (by decide +kernel) (fun h => by cases h) (by simp [lg_sl, Value.category]) (by simp [lv_args, Value.category]) rfl (by simp [lv_args, Value.category]) fun u => ?_
  unfold f_X0_dutyAt
  refine go_aload_n (pc := 0) (j := 0) (i := 0) dX0_dutyAt_0 rfl rfl ?_
  refine go_aload_n (pc := 1) (j := 0) (i := 0) dX0_dutyAt_1 rfl rfl ?_
  refine go_getI (pc := 2) (n := self) (ci := 0) (k := 14) fa_X0_151_0 t_self rfl dX0_dutyAt_2 ?_
  refine go_callVV (pc := 5) (ci := 0) (ct_X0_clears self (mI u self 14) t_self) lk_X0_259 rfl rfl rfl (by decide) t_self ⟨by decide, by decide⟩ (Nat.le_of_ble_eq_true rfl) dX0_dutyAt_5 rfl fun v1 u1 => ?_
  refine go_aload_n (pc := 8) (j := 0) (i := 0) dX0_dutyAt_8 rfl rfl ?_
  refine go_getR (pc := 9) (n := self) (ci := 0) (k := 9) (t := 13) fa_X0_65_0 t_self rfl dX0_dutyAt_9 fun r1 t_r1 => ?_
  refine go_bipush (pc := 12) (v := 12) dX0_dutyAt_12 (by decide) ?_
  refine go_aload_n (pc := 14) (j := 1) (i := 1) dX0_dutyAt_14 rfl rfl ?_
  refine go_getI (pc := 15) (n := p0) (ci := 4) (k := 9) fa_X0_224_4 t_p0 rfl dX0_dutyAt_15 ?_
  refine go_oB fun n1 e_n1 => ?_
  have t_n1 := t_r1 n1 e_n1
  subst e_n1
  refine go_iast (pc := 18) t_n1 dX0_dutyAt_18 fun u2 => ?_
  refine go_iconst (pc := 19) (v := 0) dX0_dutyAt_19 (by decide) ?_
  refine go_aload_n (pc := 20) (j := 0) (i := 0) dX0_dutyAt_20 rfl rfl ?_
  refine go_iconst (pc := 21) (v := 2) dX0_dutyAt_21 (by decide) ?_
  refine go_callVI (pc := 22) (ci := 0) (ct_X0_value self 2 t_self) lk_X0_263 rfl rfl rfl (by decide) t_self ⟨by decide, by decide⟩ (Nat.le_of_ble_eq_true rfl) dX0_dutyAt_22 rfl fun v2 u3 => ?_
  refine go_mmaxI (pc := 25) dX0_dutyAt_25 q672 q584 q102 q585 (by decide) (Nat.le_of_ble_eq_true rfl) ?_
  exact go_ireturn (pc := 28) rfl dX0_dutyAt_28

def f_X0_choice (self : Nat) (p0 : Nat) (u : zM) : Option (Int32 × zM) := lt (mR u p0 3) fun r1 => oB r1 fun n1 => bd (f_X0_dutyAt self n1 u) fun v1 u1 => bd (f_X4_hasHand n1 u1) fun v2 u2 => lt (fun (z1 : Int32) (u3 : zM) => lt (fun (z2 : Int32) (u4 : zM) => lt (fun (z3 : Int32) (u5 : zM) => if z1 = 0 then (if z2 = 0 then (some ((-1), u5)) else (some (1, u5))) else (if z3 = 0 then (if z2 = 0 then (some (0, u5)) else (if z2 = 0 then (some ((-1), u5)) else (some (1, u5)))) else (some (0, u5)))) fun j3 => if (((mI u4 n1 9) + v1) + (mI u4 n1 10)) < (mI u4 n1 8) then (j3 0 u4) else (j3 1 u4)) fun j2 => lt (fun (u6 : zM) => j2 0 u6) fun j4 => if (mI u3 n1 7) ≤ 0 then (j4 u3) else (if (mI u3 p0 6) < ((mI u3 n1 9) + v1) then (j4 u3) else (j2 1 u3))) fun j1 => lt (fun (u7 : zM) => j1 0 u7) fun j5 => if v2 = 0 then (j5 u2) else (if (mI u2 p0 6) < (mI u2 n1 8) then (j5 u2) else (j1 1 u2))
set_option maxHeartbeats 4000000 in
theorem ct_X0_choice (self : Nat) (p0 : Nat) (t_self : kd self = 0) (t_p0 : kd p0 = 5) : zMet yX0_choice cX0_choice 7 (some .int) 6 150 rvI (obT) [.ref self, .ref p0] (f_X0_choice self p0) := by
  refine zMet_of (A := [(0, .ref self), (1, .ref p0)]) (B := []) (ini := false) RX0 rfl (by decide +kernel) (fun h => by cases h) (by simp [lg_sl, Value.category]) (by simp [lv_args, Value.category]) rfl (by simp [lv_args, Value.category]) fun u => ?_
  unfold f_X0_choice
  refine go_aload_n (pc := 0) (j := 1) (i := 1) dX0_choice_0 rfl rfl ?_
  refine go_getR (pc := 1) (n := p0) (ci := 5) (k := 3) (t := 4) fa_X0_240_5 t_p0 rfl dX0_choice_1 fun r1 t_r1 => ?_
  refine go_astore_nQ (pc := 4) (j := 2) (r := r1) (i := 2) (A' := [(0, .ref self), (1, .ref p0), (2, va_rf r1)]) rfl (by decide) rfl rfl rfl dX0_choice_4 ?_
  refine go_aload_n (pc := 5) (j := 0) (i := 0) dX0_choice_5 rfl rfl ?_
  refine go_aload_nQ (pc := 6) (j := 2) (r := r1) (i := 2) dX0_choice_6 rfl rfl ?_
  refine go_oB fun n1 e_n1 => ?_
  have t_n1 := t_r1 n1 e_n1
  subst e_n1
  refine go_callVI (pc := 7) (ci := 0) (ct_X0_dutyAt self n1 t_self t_n1) lk_X0_266 rfl rfl rfl (by decide) t_self ⟨by decide, by decide⟩ (Nat.le_of_ble_eq_true rfl) dX0_choice_7 rfl fun v1 u1 => ?_
  refine go_istore_n (pc := 10) (j := 3) (i := 3) (A' := [(0, .ref self), (1, .ref p0), (2, .ref n1), (3, .int v1)]) rfl (by decide) rfl rfl rfl dX0_choice_10 ?_
  refine go_aload_n (pc := 11) (j := 2) (i := 2) dX0_choice_11 rfl rfl ?_
  refine go_callVI (pc := 12) (ci := 4) (ct_X4_hasHand n1 t_n1) lk_X0_270 rfl rfl rfl (by decide) t_n1 ⟨by decide, by decide⟩ (Nat.le_of_ble_eq_true rfl) dX0_choice_12 rfl fun v2 u2 => ?_
  refine go_join1 (pcx := 34) (α1 := Int32) (fun z1 => [(1, .ref p0), (2, .ref n1), (3, .int v1)]) (fun z1 => []) (fun z1 => [.int z1]) (fun z1 => True) (fun z1 u3 _ => ?_) (fun j1 hj1 => ?_)
  · refine go_istore (pc := 34) (i := 4) (A' := [(1, .ref p0), (2, .ref n1), (3, .int v1), (4, .int z1)]) (by decide) rfl rfl rfl dX0_choice_34 ?_
    refine go_aload_n (pc := 36) (j := 2) (i := 2) dX0_choice_36 rfl rfl ?_
    refine go_getI (pc := 37) (n := n1) (ci := 4) (k := 7) fa_X0_277_4 t_n1 rfl dX0_choice_37 ?_
    refine go_join1 (pcx := 61) (α1 := Int32) (fun z2 => [(2, .ref n1), (3, .int v1), (4, .int z1)]) (fun z2 => []) (fun z2 => [.int z2]) (fun z2 => True) (fun z2 u4 _ => ?_) (fun j2 hj2 => ?_)
    · refine go_istore (pc := 61) (i := 5) (A' := [(2, .ref n1), (3, .int v1), (4, .int z1), (5, .int z2)]) (by decide) rfl rfl rfl dX0_choice_61 ?_
      refine go_aload_n (pc := 63) (j := 2) (i := 2) dX0_choice_63 rfl rfl ?_
      refine go_getI (pc := 64) (n := n1) (ci := 4) (k := 8) fa_X0_274_4 t_n1 rfl dX0_choice_64 ?_
      refine go_aload_n (pc := 67) (j := 2) (i := 2) dX0_choice_67 rfl rfl ?_
      refine go_getI (pc := 68) (n := n1) (ci := 4) (k := 9) fa_X0_224_4 t_n1 rfl dX0_choice_68 ?_
      refine go_iload_n (pc := 71) (j := 3) (i := 3) dX0_choice_71 rfl rfl ?_
      refine go_iadd (pc := 72) dX0_choice_72 ?_
      refine go_aload_n (pc := 73) (j := 2) (i := 2) dX0_choice_73 rfl rfl ?_
      refine go_getI (pc := 74) (n := n1) (ci := 4) (k := 10) fa_X0_280_4 t_n1 rfl dX0_choice_74 ?_
      refine go_iadd (pc := 77) dX0_choice_77 ?_
      refine go_join1 (pcx := 86) (α1 := Int32) (fun z3 => [(4, .int z1), (5, .int z2)]) (fun z3 => []) (fun z3 => [.int z3]) (fun z3 => True) (fun z3 u5 _ => ?_) (fun j3 hj3 => ?_)
      · refine go_istore (pc := 86) (i := 6) (A' := [(4, .int z1), (5, .int z2), (6, .int z3)]) (by decide) rfl rfl rfl dX0_choice_86 ?_
        refine go_iload (pc := 88) (i := 4) dX0_choice_88 rfl ?_
        refine go_if_eq (pc := 90) (tgt := 107) dX0_choice_90 (by decide) (fun h1 => ?_) (fun h1 => ?_)
        · refine go_iload (pc := 107) (i := 5) dX0_choice_107 rfl ?_
          refine go_if_eq (pc := 109) (tgt := 116) dX0_choice_109 (by decide) (fun h2 => ?_) (fun h2 => ?_)
          · refine go_iconst (pc := 116) (v := (-1)) dX0_choice_116 (by decide) ?_
            exact go_ireturn (pc := 117) rfl dX0_choice_117
          · refine go_iconst (pc := 112) (v := 1) dX0_choice_112 (by decide) ?_
            refine go_goto (pc := 113) (tgt := 117) dX0_choice_113 (by decide) ?_
            exact go_ireturn (pc := 117) rfl dX0_choice_117
        · refine go_iload (pc := 93) (i := 6) dX0_choice_93 rfl ?_
          refine go_if_ne (pc := 95) (tgt := 103) dX0_choice_95 (by decide) (fun h3 => ?_) (fun h3 => ?_)
          · refine go_iload (pc := 98) (i := 5) dX0_choice_98 rfl ?_
            refine go_if_ne (pc := 100) (tgt := 107) dX0_choice_100 (by decide) (fun h4 => ?_) (fun h4 => ?_)
            · refine go_iconst (pc := 103) (v := 0) dX0_choice_103 (by decide) ?_
              refine go_goto (pc := 104) (tgt := 117) dX0_choice_104 (by decide) ?_
              exact go_ireturn (pc := 117) rfl dX0_choice_117
            · refine go_iload (pc := 107) (i := 5) dX0_choice_107 rfl ?_
              refine go_if_eq (pc := 109) (tgt := 116) dX0_choice_109 (by decide) (fun h5 => ?_) (fun h5 => ?_)
              · refine go_iconst (pc := 116) (v := (-1)) dX0_choice_116 (by decide) ?_
                exact go_ireturn (pc := 117) rfl dX0_choice_117
              · refine go_iconst (pc := 112) (v := 1) dX0_choice_112 (by decide) ?_
                refine go_goto (pc := 113) (tgt := 117) dX0_choice_113 (by decide) ?_
                exact go_ireturn (pc := 117) rfl dX0_choice_117
          · refine go_iconst (pc := 103) (v := 0) dX0_choice_103 (by decide) ?_
            refine go_goto (pc := 104) (tgt := 117) dX0_choice_104 (by decide) ?_
            exact go_ireturn (pc := 117) rfl dX0_choice_117
      · refine go_icmp_gt (pc := 78) (tgt := 85) dX0_choice_78 (by decide) (fun h6 => ?_) (fun h6 => ?_)
        · refine go_iconst (pc := 85) (v := 0) dX0_choice_85 (by decide) ?_
          exact go_weak (A' := [(4, .int z1), (5, .int z2)]) (B' := []) ⟨rfl, rfl, trivial⟩ rfl (fun q h => by cases h) (hj3 0 u4 trivial)
        · refine go_iconst (pc := 81) (v := 1) dX0_choice_81 (by decide) ?_
          refine go_goto (pc := 82) (tgt := 86) dX0_choice_82 (by decide) ?_
          exact go_weak (A' := [(4, .int z1), (5, .int z2)]) (B' := []) ⟨rfl, rfl, trivial⟩ rfl (fun q h => by cases h) (hj3 1 u4 trivial)
    · refine go_join0 (pcx := 60) ([(2, .ref n1), (3, .int v1), (4, .int z1)]) ([]) ([]) (True) (fun u6 _ => ?_) (fun j4 hj4 => ?_)
      · refine go_iconst (pc := 60) (v := 0) dX0_choice_60 (by decide) ?_
        exact go_weak (A' := [(2, .ref n1), (3, .int v1), (4, .int z1)]) (B' := []) ⟨rfl, rfl, rfl, trivial⟩ rfl (fun q h => by cases h) (hj2 0 u6 trivial)
      · refine go_if_le (pc := 40) (tgt := 60) dX0_choice_40 (by decide) (fun h7 => ?_) (fun h7 => ?_)
        · exact go_weak (A' := [(2, .ref n1), (3, .int v1), (4, .int z1)]) (B' := []) ⟨rfl, rfl, rfl, trivial⟩ rfl (fun q h => by cases h) (hj4 u3 trivial)
        · refine go_aload_n (pc := 43) (j := 1) (i := 1) dX0_choice_43 rfl rfl ?_
          refine go_getI (pc := 44) (n := p0) (ci := 5) (k := 6) fa_X0_177_5 t_p0 rfl dX0_choice_44 ?_
          refine go_aload_n (pc := 47) (j := 2) (i := 2) dX0_choice_47 rfl rfl ?_
          refine go_getI (pc := 48) (n := n1) (ci := 4) (k := 9) fa_X0_224_4 t_n1 rfl dX0_choice_48 ?_
          refine go_iload_n (pc := 51) (j := 3) (i := 3) dX0_choice_51 rfl rfl ?_
          refine go_iadd (pc := 52) dX0_choice_52 ?_
          refine go_icmp_lt (pc := 53) (tgt := 60) dX0_choice_53 (by decide) (fun h8 => ?_) (fun h8 => ?_)
          · exact go_weak (A' := [(2, .ref n1), (3, .int v1), (4, .int z1)]) (B' := []) ⟨rfl, rfl, rfl, trivial⟩ rfl (fun q h => by cases h) (hj4 u3 trivial)
          · refine go_iconst (pc := 56) (v := 1) dX0_choice_56 (by decide) ?_
            refine go_goto (pc := 57) (tgt := 61) dX0_choice_57 (by decide) ?_
            exact go_weak (A' := [(2, .ref n1), (3, .int v1), (4, .int z1)]) (B' := []) ⟨rfl, rfl, rfl, trivial⟩ rfl (fun q h => by cases h) (hj2 1 u3 trivial)
  · refine go_join0 (pcx := 33) ([(1, .ref p0), (2, .ref n1), (3, .int v1)]) ([]) ([]) (True) (fun u7 _ => ?_) (fun j5 hj5 => ?_)
    · refine go_iconst (pc := 33) (v := 0) dX0_choice_33 (by decide) ?_
      exact go_weak (A' := [(1, .ref p0), (2, .ref n1), (3, .int v1)]) (B' := []) ⟨rfl, rfl, rfl, trivial⟩ rfl (fun q h => by cases h) (hj1 0 u7 trivial)
    · refine go_if_eq (pc := 15) (tgt := 33) dX0_choice_15 (by decide) (fun h9 => ?_) (fun h9 => ?_)
      · exact go_weak (A' := [(1, .ref p0), (2, .ref n1), (3, .int v1)]) (B' := []) ⟨rfl, rfl, rfl, trivial⟩ rfl (fun q h => by cases h) (hj5 u2 trivial)
      · refine go_aload_n (pc := 18) (j := 1) (i := 1) dX0_choice_18 rfl rfl ?_
        refine go_getI (pc := 19) (n := p0) (ci := 5) (k := 6) fa_X0_177_5 t_p0 rfl dX0_choice_19 ?_
        refine go_aload_n (pc := 22) (j := 2) (i := 2) dX0_choice_22 rfl rfl ?_
        refine go_getI (pc := 23) (n := n1) (ci := 4) (k := 8) fa_X0_274_4 t_n1 rfl dX0_choice_23 ?_
        refine go_icmp_lt (pc := 26) (tgt := 33) dX0_choice_26 (by decide) (fun h10 => ?_) (fun h10 => ?_)
        · exact go_weak (A' := [(1, .ref p0), (2, .ref n1), (3, .int v1)]) (B' := []) ⟨rfl, rfl, rfl, trivial⟩ rfl (fun q h => by cases h) (hj5 u2 trivial)
        · refine go_iconst (pc := 29) (v := 1) dX0_choice_29 (by decide) ?_
          refine go_goto (pc := 30) (tgt := 34) dX0_choice_30 (by decide) ?_
          exact go_weak (A' := [(1, .ref p0), (2, .ref n1), (3, .int v1)]) (B' := []) ⟨rfl, rfl, rfl, trivial⟩ rfl (fun q h => by cases h) (hj1 1 u2 trivial)

def f_X0_buys (self : Nat) (p0 : Nat) (u : zM) : Option (Unit × zM) := lt (mR u p0 3) fun r1 => bd (f_X0_choice self p0 u) fun v1 u1 => if v1 = (-1) then (lt (sI u1 p0 8 ((mI u1 p0 8) + 1)) fun u2 => some ((), u2)) else (if v1 = 0 then (oB r1 fun n1 => lt (sI u1 p0 6 ((mI u1 p0 6) - (mI u1 n1 8))) fun u3 => lt (sI u3 p0 9 ((mI u3 p0 9) + 1)) fun u4 => bd (f_X4_sellsHand n1 u4) fun v2 u5 => some ((), u5)) else (oB r1 fun n2 => bd (f_X0_dutyAt self n2 u1) fun v3 u6 => lt (sI u6 p0 6 ((mI u6 p0 6) - ((mI u6 n2 9) + v3))) fun u7 => lt (sI u7 self 22 ((mI u7 self 22) + v3)) fun u8 => lt (sI u8 p0 10 ((mI u8 p0 10) + 1)) fun u9 => bd (f_X4_sellsMill n2 u9) fun v4 u10 => some ((), u10)))
set_option maxHeartbeats 4000000 in
theorem ct_X0_buys (self : Nat) (p0 : Nat) (t_self : kd self = 0) (t_p0 : kd p0 = 5) : zMet yX0_buys cX0_buys 5 (none) 7 176 rvV (obT) [.ref self, .ref p0] (f_X0_buys self p0) := by
  refine zMet_of (A := [(0, .ref self), (1, .ref p0)]) (B := []) (ini := false) RX0 rfl (by decide +kernel) (fun h => by cases h) (by simp [lg_sl, Value.category]) (by simp [lv_args, Value.category]) rfl (by simp [lv_args, Value.category]) fun u => ?_
  unfold f_X0_buys
  refine go_aload_n (pc := 0) (j := 1) (i := 1) dX0_buys_0 rfl rfl ?_
  refine go_getR (pc := 1) (n := p0) (ci := 5) (k := 3) (t := 4) fa_X0_240_5 t_p0 rfl dX0_buys_1 fun r1 t_r1 => ?_
  refine go_astore_nQ (pc := 4) (j := 2) (r := r1) (i := 2) (A' := [(0, .ref self), (1, .ref p0), (2, va_rf r1)]) rfl (by decide) rfl rfl rfl dX0_buys_4 ?_
  refine go_aload_n (pc := 5) (j := 0) (i := 0) dX0_buys_5 rfl rfl ?_
  refine go_aload_n (pc := 6) (j := 1) (i := 1) dX0_buys_6 rfl rfl ?_
  refine go_callVI (pc := 7) (ci := 0) (ct_X0_choice self p0 t_self t_p0) lk_X0_283 rfl rfl rfl (by decide) t_self ⟨by decide, by decide⟩ (Nat.le_of_ble_eq_true rfl) dX0_buys_7 rfl fun v1 u1 => ?_
  refine go_istore_n (pc := 10) (j := 3) (i := 3) (A' := [(0, .ref self), (1, .ref p0), (2, va_rf r1), (3, .int v1)]) rfl (by decide) rfl rfl rfl dX0_buys_10 ?_
  refine go_iload_n (pc := 11) (j := 3) (i := 3) dX0_buys_11 rfl rfl ?_
  refine go_iconst (pc := 12) (v := (-1)) dX0_buys_12 (by decide) ?_
  refine go_icmp_ne (pc := 13) (tgt := 29) dX0_buys_13 (by decide) (fun h1 => ?_) (fun h1 => ?_)
  · refine go_aload_n (pc := 16) (j := 1) (i := 1) dX0_buys_16 rfl rfl ?_
    refine go_dupA (pc := 17) dX0_buys_17 ?_
    refine go_getI (pc := 18) (n := p0) (ci := 5) (k := 8) fa_X0_287_5 t_p0 rfl dX0_buys_18 ?_
    refine go_iconst (pc := 21) (v := 1) dX0_buys_21 (by decide) ?_
    refine go_iadd (pc := 22) dX0_buys_22 ?_
    refine go_putI (pc := 23) (n := p0) (ci := 5) (k := 8) (v := ((mI u1 p0 8) + 1)) pa_X0_287_5 (fun h => by cases h) t_p0 rfl zKeep_int dX0_buys_23 fun u2 => ?_
    refine go_goto (pc := 26) (tgt := 111) dX0_buys_26 (by decide) ?_
    exact go_vreturn (pc := 111) rfl dX0_buys_111
  · refine go_iload_n (pc := 29) (j := 3) (i := 3) dX0_buys_29 rfl rfl ?_
    refine go_if_ne (pc := 30) (tgt := 63) dX0_buys_30 (by decide) (fun h2 => ?_) (fun h2 => ?_)
    · refine go_aload_n (pc := 33) (j := 1) (i := 1) dX0_buys_33 rfl rfl ?_
      refine go_dupA (pc := 34) dX0_buys_34 ?_
      refine go_getI (pc := 35) (n := p0) (ci := 5) (k := 6) fa_X0_177_5 t_p0 rfl dX0_buys_35 ?_
      refine go_aload_nQ (pc := 38) (j := 2) (r := r1) (i := 2) dX0_buys_38 rfl rfl ?_
      refine go_oB fun n1 e_n1 => ?_
      have t_n1 := t_r1 n1 e_n1
      subst e_n1
      refine go_getI (pc := 39) (n := n1) (ci := 4) (k := 8) fa_X0_274_4 t_n1 rfl dX0_buys_39 ?_
      refine go_isub (pc := 42) dX0_buys_42 ?_
      refine go_putI (pc := 43) (n := p0) (ci := 5) (k := 6) (v := ((mI u1 p0 6) - (mI u1 n1 8))) pa_X0_177_5 (fun h => by cases h) t_p0 rfl zKeep_int dX0_buys_43 fun u3 => ?_
      refine go_aload_n (pc := 46) (j := 1) (i := 1) dX0_buys_46 rfl rfl ?_
      refine go_dupA (pc := 47) dX0_buys_47 ?_
      refine go_getI (pc := 48) (n := p0) (ci := 5) (k := 9) fa_X0_290_5 t_p0 rfl dX0_buys_48 ?_
      refine go_iconst (pc := 51) (v := 1) dX0_buys_51 (by decide) ?_
      refine go_iadd (pc := 52) dX0_buys_52 ?_
      refine go_putI (pc := 53) (n := p0) (ci := 5) (k := 9) (v := ((mI u3 p0 9) + 1)) pa_X0_290_5 (fun h => by cases h) t_p0 rfl zKeep_int dX0_buys_53 fun u4 => ?_
      refine go_aload_n (pc := 56) (j := 2) (i := 2) dX0_buys_56 rfl rfl ?_
      refine go_callVV (pc := 57) (ci := 4) (ct_X4_sellsHand n1 t_n1) lk_X0_293 rfl rfl rfl (by decide) t_n1 ⟨by decide, by decide⟩ (Nat.le_of_ble_eq_true rfl) dX0_buys_57 rfl fun v2 u5 => ?_
      refine go_goto (pc := 60) (tgt := 111) dX0_buys_60 (by decide) ?_
      exact go_vreturn (pc := 111) rfl dX0_buys_111
    · refine go_aload_n (pc := 63) (j := 0) (i := 0) dX0_buys_63 rfl rfl ?_
      refine go_aload_nQ (pc := 64) (j := 2) (r := r1) (i := 2) dX0_buys_64 rfl rfl ?_
      refine go_oB fun n2 e_n2 => ?_
      have t_n2 := t_r1 n2 e_n2
      subst e_n2
      refine go_callVI (pc := 65) (ci := 0) (ct_X0_dutyAt self n2 t_self t_n2) lk_X0_266 rfl rfl rfl (by decide) t_self ⟨by decide, by decide⟩ (Nat.le_of_ble_eq_true rfl) dX0_buys_65 rfl fun v3 u6 => ?_
      refine go_istore (pc := 68) (i := 4) (A' := [(0, .ref self), (1, .ref p0), (2, .ref n2), (3, .int v1), (4, .int v3)]) (by decide) rfl rfl rfl dX0_buys_68 ?_
      refine go_aload_n (pc := 70) (j := 1) (i := 1) dX0_buys_70 rfl rfl ?_
      refine go_dupA (pc := 71) dX0_buys_71 ?_
      refine go_getI (pc := 72) (n := p0) (ci := 5) (k := 6) fa_X0_177_5 t_p0 rfl dX0_buys_72 ?_
      refine go_aload_n (pc := 75) (j := 2) (i := 2) dX0_buys_75 rfl rfl ?_
      refine go_getI (pc := 76) (n := n2) (ci := 4) (k := 9) fa_X0_224_4 t_n2 rfl dX0_buys_76 ?_
      refine go_iload (pc := 79) (i := 4) dX0_buys_79 rfl ?_
      refine go_iadd (pc := 81) dX0_buys_81 ?_
      refine go_isub (pc := 82) dX0_buys_82 ?_
      refine go_putI (pc := 83) (n := p0) (ci := 5) (k := 6) (v := ((mI u6 p0 6) - ((mI u6 n2 9) + v3))) pa_X0_177_5 (fun h => by cases h) t_p0 rfl zKeep_int dX0_buys_83 fun u7 => ?_
      refine go_aload_n (pc := 86) (j := 0) (i := 0) dX0_buys_86 rfl rfl ?_
      refine go_dupA (pc := 87) dX0_buys_87 ?_
      refine go_getI (pc := 88) (n := self) (ci := 0) (k := 22) fa_X0_296_0 t_self rfl dX0_buys_88 ?_
      refine go_iload (pc := 91) (i := 4) dX0_buys_91 rfl ?_
      refine go_iadd (pc := 93) dX0_buys_93 ?_
      refine go_putI (pc := 94) (n := self) (ci := 0) (k := 22) (v := ((mI u7 self 22) + v3)) pa_X0_296_0 (fun h => by cases h) t_self rfl zKeep_int dX0_buys_94 fun u8 => ?_
      refine go_aload_n (pc := 97) (j := 1) (i := 1) dX0_buys_97 rfl rfl ?_
      refine go_dupA (pc := 98) dX0_buys_98 ?_
      refine go_getI (pc := 99) (n := p0) (ci := 5) (k := 10) fa_X0_299_5 t_p0 rfl dX0_buys_99 ?_
      refine go_iconst (pc := 102) (v := 1) dX0_buys_102 (by decide) ?_
      refine go_iadd (pc := 103) dX0_buys_103 ?_
      refine go_putI (pc := 104) (n := p0) (ci := 5) (k := 10) (v := ((mI u8 p0 10) + 1)) pa_X0_299_5 (fun h => by cases h) t_p0 rfl zKeep_int dX0_buys_104 fun u9 => ?_
      refine go_aload_n (pc := 107) (j := 2) (i := 2) dX0_buys_107 rfl rfl ?_
      refine go_callVV (pc := 108) (ci := 4) (ct_X4_sellsMill n2 t_n2) lk_X0_302 rfl rfl rfl (by decide) t_n2 ⟨by decide, by decide⟩ (Nat.le_of_ble_eq_true rfl) dX0_buys_108 rfl fun v4 u10 => ?_
      exact go_vreturn (pc := 111) rfl dX0_buys_111

def f_X0_words_L28 (x0 : Nat) (x1 : Int32) (k72 : Int32 → zM → Option (Unit × zM)) : Nat → Int32 → Int32 → zM → Option (Unit × zM)
  | 0, _, _, _ => none
  | n + 1, x2, x3, u => if (mI u x0 15) ≤ x3 then (k72 x2 u) else (lt (mR u x0 7) fun r3 => oB r3 fun n3 => ix ((8 * x1) + x3) (mN u n3) (lt (fun (z1 : Int32) (u1 : zM) => f_X0_words_L28 x0 x1 k72 n z1 (x3 + 1) u1) fun j1 => if (mI u n3 (xN ((8 * x1) + x3))) ≤ 0 then (j1 x2 u) else (lt (mR u x0 0) fun r4 => oB r4 fun n4 => ix x3 (mN u n4) (lt (mR u n4 (xN x3)) fun r5 => oB r5 fun n5 => j1 (if x2 < ((mI u n5 10) - 2) then ((mI u n5 10) - 2) else x2) u))))
section
variable {c0 s0 : Nat} {tbv : List ExceptionTableEntry}
set_option maxHeartbeats 4000000 in
theorem g_X0_words_L28 (x0 : Nat) (x1 : Int32) (k72 : Int32 → zM → Option (Unit × zM)) (t_x0 : kd x0 = 0) (hk72 : ∀ (x2 : Int32) (u : zM), Go RX0 cX0_words 4 (none) false 1 40 [] (obT) (zQ rvV) c0 s0 72 [(0, .ref x0), (1, .int x1), (2, .int x2)] [] [] u (k72 x2 u)) : ∀ (n : Nat) (x2 : Int32) (x3 : Int32) (u : zM), Go RX0 cX0_words 4 (none) false 1 40 [] (obT) (zQ rvV) c0 s0 28 [(0, .ref x0), (1, .int x1), (2, .int x2), (3, .int x3)] [] [] u (f_X0_words_L28 x0 x1 k72 n x2 x3 u) := by
  intro n
  induction n with
  | zero => intros; exact go_none
  | succ n ih =>
    intro x2 x3 u
    unfold f_X0_words_L28
    refine go_iload_n (pc := 28) (j := 3) (i := 3) dX0_words_28 rfl rfl ?_
    refine go_aload_n (pc := 29) (j := 0) (i := 0) dX0_words_29 rfl rfl ?_
    refine go_getI (pc := 30) (n := x0) (ci := 0) (k := 15) fa_X0_112_0 t_x0 rfl dX0_words_30 ?_
    refine go_icmp_ge (pc := 33) (tgt := 72) dX0_words_33 (by decide) (fun h2 => ?_) (fun h2 => ?_)
    · exact go_weak (A' := [(0, .ref x0), (1, .int x1), (2, .int x2)]) (B' := []) ⟨rfl, rfl, rfl, trivial⟩ rfl (fun q h => by cases h) (hk72 x2 u)
    · refine go_aload_n (pc := 36) (j := 0) (i := 0) dX0_words_36 rfl rfl ?_
      refine go_getR (pc := 37) (n := x0) (ci := 0) (k := 7) (t := 13) fa_X0_59_0 t_x0 rfl dX0_words_37 fun r3 t_r3 => ?_
      refine go_bipush (pc := 40) (v := 8) dX0_words_40 (by decide) ?_
      refine go_iload_n (pc := 42) (j := 1) (i := 1) dX0_words_42 rfl rfl ?_
      refine go_imul (pc := 43) dX0_words_43 ?_
      refine go_iload_n (pc := 44) (j := 3) (i := 3) dX0_words_44 rfl rfl ?_
      refine go_iadd (pc := 45) dX0_words_45 ?_
      refine go_oB fun n3 e_n3 => ?_
      have t_n3 := t_r3 n3 e_n3
      subst e_n3
      refine go_iald (pc := 46) t_n3 dX0_words_46 ?_
      refine go_join1 (pcx := 66) (α1 := Int32) (fun z1 => [(0, .ref x0), (1, .int x1), (2, .int z1), (3, .int x3)]) (fun z1 => []) (fun z1 => []) (fun z1 => True) (fun z1 u1 _ => ?_) (fun j1 hj1 => ?_)
      · refine go_iinc (pc := 66) (i := 3) (w := 1) (A' := [(0, .ref x0), (1, .int x1), (2, .int z1), (3, .int (x3 + 1))]) rfl (by decide) (by decide) rfl rfl rfl dX0_words_66 ?_
        refine go_goto (pc := 69) (tgt := 28) dX0_words_69 (by decide) ?_
        exact go_weak (A' := [(0, .ref x0), (1, .int x1), (2, .int z1), (3, .int (x3 + 1))]) (B' := []) ⟨rfl, rfl, rfl, rfl, trivial⟩ rfl (fun q h => by cases h) (ih z1 (x3 + 1) u1)
      · refine go_if_le (pc := 47) (tgt := 66) dX0_words_47 (by decide) (fun h3 => ?_) (fun h3 => ?_)
        · exact go_weak (A' := [(0, .ref x0), (1, .int x1), (2, .int x2), (3, .int x3)]) (B' := []) ⟨rfl, rfl, rfl, rfl, trivial⟩ rfl (fun q h => by cases h) (hj1 x2 u trivial)
        · refine go_iload_n (pc := 50) (j := 2) (i := 2) dX0_words_50 rfl rfl ?_
          refine go_aload_n (pc := 51) (j := 0) (i := 0) dX0_words_51 rfl rfl ?_
          refine go_getR (pc := 52) (n := x0) (ci := 0) (k := 0) (t := 17) fa_X0_24_0 t_x0 rfl dX0_words_52 fun r4 t_r4 => ?_
          refine go_iload_n (pc := 55) (j := 3) (i := 3) dX0_words_55 rfl rfl ?_
          refine go_oB fun n4 e_n4 => ?_
          have t_n4 := t_r4 n4 e_n4
          subst e_n4
          refine go_aald (pc := 56) (n := n4) (ci := 17) (t := 4) (by decide) (by decide) t_n4 rfl dX0_words_56 fun r5 t_r5 => ?_
          refine go_oB fun n5 e_n5 => ?_
          have t_n5 := t_r5 n5 e_n5
          subst e_n5
          refine go_getI (pc := 57) (n := n5) (ci := 4) (k := 10) fa_X0_280_4 t_n5 rfl dX0_words_57 ?_
          refine go_iconst (pc := 60) (v := 2) dX0_words_60 (by decide) ?_
          refine go_isub (pc := 61) dX0_words_61 ?_
          refine go_mmaxI (pc := 62) dX0_words_62 q672 q584 q102 q585 (by decide) (Nat.le_of_ble_eq_true rfl) ?_
          refine go_istore_n (pc := 65) (j := 2) (i := 2) (A' := [(0, .ref x0), (1, .int x1), (2, .int (if x2 < ((mI u n5 10) - 2) then ((mI u n5 10) - 2) else x2)), (3, .int x3)]) rfl (by decide) rfl rfl rfl dX0_words_65 ?_
          exact go_weak (A' := [(0, .ref x0), (1, .int x1), (2, .int (if x2 < ((mI u n5 10) - 2) then ((mI u n5 10) - 2) else x2)), (3, .int x3)]) (B' := []) ⟨rfl, rfl, rfl, rfl, trivial⟩ rfl (fun q h => by cases h) (hj1 (if x2 < ((mI u n5 10) - 2) then ((mI u n5 10) - 2) else x2) u trivial)
end
def f_X0_words_L2 (x0 : Nat) (k88 : zM → Option (Unit × zM)) : Nat → Int32 → zM → Option (Unit × zM)
  | 0, _, _ => none
  | n + 1, x1, u => if (mI u x0 15) ≤ x1 then (k88 u) else (lt (mR u x0 0) fun r1 => oB r1 fun n1 => ix x1 (mN u n1) (lt (mR u n1 (xN x1)) fun r2 => oB r2 fun n2 => f_X0_words_L28 x0 x1 (fun z2 u2 => lt (mR u2 x0 0) fun r6 => oB r6 fun n6 => ix x1 (mN u2 n6) (lt (mR u2 n6 (xN x1)) fun r7 => oB r7 fun n7 => lt (sI u2 n7 11 z2) fun u3 => f_X0_words_L2 x0 k88 n (x1 + 1) u3)) zFu (if 0 < ((mI u n2 10) - 1) then ((mI u n2 10) - 1) else 0) 0 u))
section
variable {c0 s0 : Nat} {tbv : List ExceptionTableEntry}
set_option maxHeartbeats 4000000 in
theorem g_X0_words_L2 (x0 : Nat) (k88 : zM → Option (Unit × zM)) (t_x0 : kd x0 = 0) (hk88 : ∀ (u : zM), Go RX0 cX0_words 4 (none) false 1 40 [] (obT) (zQ rvV) c0 s0 88 [(0, .ref x0)] [] [] u (k88 u)) : ∀ (n : Nat) (x1 : Int32) (u : zM), Go RX0 cX0_words 4 (none) false 1 40 [] (obT) (zQ rvV) c0 s0 2 [(0, .ref x0), (1, .int x1)] [] [] u (f_X0_words_L2 x0 k88 n x1 u) := by
  intro n
  induction n with
  | zero => intros; exact go_none
  | succ n ih =>
    intro x1 u
    unfold f_X0_words_L2
    refine go_iload_n (pc := 2) (j := 1) (i := 1) dX0_words_2 rfl rfl ?_
    refine go_aload_n (pc := 3) (j := 0) (i := 0) dX0_words_3 rfl rfl ?_
    refine go_getI (pc := 4) (n := x0) (ci := 0) (k := 15) fa_X0_112_0 t_x0 rfl dX0_words_4 ?_
    refine go_icmp_ge (pc := 7) (tgt := 88) dX0_words_7 (by decide) (fun h1 => ?_) (fun h1 => ?_)
    · exact go_weak (A' := [(0, .ref x0)]) (B' := []) ⟨rfl, trivial⟩ rfl (fun q h => by cases h) (hk88 u)
    · refine go_iconst (pc := 10) (v := 0) dX0_words_10 (by decide) ?_
      refine go_aload_n (pc := 11) (j := 0) (i := 0) dX0_words_11 rfl rfl ?_
      refine go_getR (pc := 12) (n := x0) (ci := 0) (k := 0) (t := 17) fa_X0_24_0 t_x0 rfl dX0_words_12 fun r1 t_r1 => ?_
      refine go_iload_n (pc := 15) (j := 1) (i := 1) dX0_words_15 rfl rfl ?_
      refine go_oB fun n1 e_n1 => ?_
      have t_n1 := t_r1 n1 e_n1
      subst e_n1
      refine go_aald (pc := 16) (n := n1) (ci := 17) (t := 4) (by decide) (by decide) t_n1 rfl dX0_words_16 fun r2 t_r2 => ?_
      refine go_oB fun n2 e_n2 => ?_
      have t_n2 := t_r2 n2 e_n2
      subst e_n2
      refine go_getI (pc := 17) (n := n2) (ci := 4) (k := 10) fa_X0_280_4 t_n2 rfl dX0_words_17 ?_
      refine go_iconst (pc := 20) (v := 1) dX0_words_20 (by decide) ?_
      refine go_isub (pc := 21) dX0_words_21 ?_
      refine go_mmaxI (pc := 22) dX0_words_22 q672 q584 q102 q585 (by decide) (Nat.le_of_ble_eq_true rfl) ?_
      refine go_istore_n (pc := 25) (j := 2) (i := 2) (A' := [(0, .ref x0), (1, .int x1), (2, .int (if 0 < ((mI u n2 10) - 1) then ((mI u n2 10) - 1) else 0))]) rfl (by decide) rfl rfl rfl dX0_words_25 ?_
      refine go_iconst (pc := 26) (v := 0) dX0_words_26 (by decide) ?_
      refine go_istore_n (pc := 27) (j := 3) (i := 3) (A' := [(0, .ref x0), (1, .int x1), (2, .int (if 0 < ((mI u n2 10) - 1) then ((mI u n2 10) - 1) else 0)), (3, .int 0)]) rfl (by decide) rfl rfl rfl dX0_words_27 ?_
      refine go_weak (A' := [(0, .ref x0), (1, .int x1), (2, .int (if 0 < ((mI u n2 10) - 1) then ((mI u n2 10) - 1) else 0)), (3, .int 0)]) (B' := []) ⟨rfl, rfl, rfl, rfl, trivial⟩ rfl (fun q h => by cases h) (g_X0_words_L28 x0 x1 _ t_x0 ?_ zFu (if 0 < ((mI u n2 10) - 1) then ((mI u n2 10) - 1) else 0) 0 u)
      · intro z2 u2
        refine go_aload_n (pc := 72) (j := 0) (i := 0) dX0_words_72 rfl rfl ?_
        refine go_getR (pc := 73) (n := x0) (ci := 0) (k := 0) (t := 17) fa_X0_24_0 t_x0 rfl dX0_words_73 fun r6 t_r6 => ?_
        refine go_iload_n (pc := 76) (j := 1) (i := 1) dX0_words_76 rfl rfl ?_
        refine go_oB fun n6 e_n6 => ?_
        have t_n6 := t_r6 n6 e_n6
        subst e_n6
        refine go_aald (pc := 77) (n := n6) (ci := 17) (t := 4) (by decide) (by decide) t_n6 rfl dX0_words_77 fun r7 t_r7 => ?_
        refine go_iload_n (pc := 78) (j := 2) (i := 2) dX0_words_78 rfl rfl ?_
        refine go_oB fun n7 e_n7 => ?_
        have t_n7 := t_r7 n7 e_n7
        subst e_n7
        refine go_putI (pc := 79) (n := n7) (ci := 4) (k := 11) (v := z2) pa_X0_305_4 (fun h => by cases h) t_n7 rfl zKeep_int dX0_words_79 fun u3 => ?_
        refine go_iinc (pc := 82) (i := 1) (w := 1) (A' := [(0, .ref x0), (1, .int (x1 + 1)), (2, .int z2)]) rfl (by decide) (by decide) rfl rfl rfl dX0_words_82 ?_
        refine go_goto (pc := 85) (tgt := 2) dX0_words_85 (by decide) ?_
        exact go_weak (A' := [(0, .ref x0), (1, .int (x1 + 1))]) (B' := []) ⟨rfl, rfl, trivial⟩ rfl (fun q h => by cases h) (ih (x1 + 1) u3)
end
def f_X0_words_L90 (x0 : Nat) : Nat → Int32 → zM → Option (Unit × zM)
  | 0, _, _ => none
  | n + 1, x1, u => if (mI u x0 15) ≤ x1 then (some ((), u)) else (lt (mR u x0 0) fun r8 => oB r8 fun n8 => ix x1 (mN u n8) (lt (mR u n8 (xN x1)) fun r9 => lt (mR u x0 0) fun r10 => oB r10 fun n9 => ix x1 (mN u n9) (lt (mR u n9 (xN x1)) fun r11 => oB r11 fun n10 => oB r9 fun n11 => lt (sI u n11 10 (mI u n10 11)) fun u5 => f_X0_words_L90 x0 n (x1 + 1) u5)))
section
variable {c0 s0 : Nat} {tbv : List ExceptionTableEntry}
set_option maxHeartbeats 4000000 in
theorem g_X0_words_L90 (x0 : Nat) (t_x0 : kd x0 = 0) : ∀ (n : Nat) (x1 : Int32) (u : zM), Go RX0 cX0_words 4 (none) false 1 40 [] (obT) (zQ rvV) c0 s0 90 [(0, .ref x0), (1, .int x1)] [] [] u (f_X0_words_L90 x0 n x1 u) := by
  intro n
  induction n with
  | zero => intros; exact go_none
  | succ n ih =>
    intro x1 u
    unfold f_X0_words_L90
    refine go_iload_n (pc := 90) (j := 1) (i := 1) dX0_words_90 rfl rfl ?_
    refine go_aload_n (pc := 91) (j := 0) (i := 0) dX0_words_91 rfl rfl ?_
    refine go_getI (pc := 92) (n := x0) (ci := 0) (k := 15) fa_X0_112_0 t_x0 rfl dX0_words_92 ?_
    refine go_icmp_ge (pc := 95) (tgt := 122) dX0_words_95 (by decide) (fun h4 => ?_) (fun h4 => ?_)
    · exact go_vreturn (pc := 122) rfl dX0_words_122
    · refine go_aload_n (pc := 98) (j := 0) (i := 0) dX0_words_98 rfl rfl ?_
      refine go_getR (pc := 99) (n := x0) (ci := 0) (k := 0) (t := 17) fa_X0_24_0 t_x0 rfl dX0_words_99 fun r8 t_r8 => ?_
      refine go_iload_n (pc := 102) (j := 1) (i := 1) dX0_words_102 rfl rfl ?_
      refine go_oB fun n8 e_n8 => ?_
      have t_n8 := t_r8 n8 e_n8
      subst e_n8
      refine go_aald (pc := 103) (n := n8) (ci := 17) (t := 4) (by decide) (by decide) t_n8 rfl dX0_words_103 fun r9 t_r9 => ?_
      refine go_aload_n (pc := 104) (j := 0) (i := 0) dX0_words_104 rfl rfl ?_
      refine go_getR (pc := 105) (n := x0) (ci := 0) (k := 0) (t := 17) fa_X0_24_0 t_x0 rfl dX0_words_105 fun r10 t_r10 => ?_
      refine go_iload_n (pc := 108) (j := 1) (i := 1) dX0_words_108 rfl rfl ?_
      refine go_oB fun n9 e_n9 => ?_
      have t_n9 := t_r10 n9 e_n9
      subst e_n9
      refine go_aald (pc := 109) (n := n9) (ci := 17) (t := 4) (by decide) (by decide) t_n9 rfl dX0_words_109 fun r11 t_r11 => ?_
      refine go_oB fun n10 e_n10 => ?_
      have t_n10 := t_r11 n10 e_n10
      subst e_n10
      refine go_getI (pc := 110) (n := n10) (ci := 4) (k := 11) fa_X0_305_4 t_n10 rfl dX0_words_110 ?_
      refine go_oB fun n11 e_n11 => ?_
      have t_n11 := t_r9 n11 e_n11
      subst e_n11
      refine go_putI (pc := 113) (n := n11) (ci := 4) (k := 10) (v := (mI u n10 11)) pa_X0_280_4 (fun h => by cases h) t_n11 rfl zKeep_int dX0_words_113 fun u5 => ?_
      refine go_iinc (pc := 116) (i := 1) (w := 1) (A' := [(0, .ref x0), (1, .int (x1 + 1))]) rfl (by decide) (by decide) rfl rfl rfl dX0_words_116 ?_
      refine go_goto (pc := 119) (tgt := 90) dX0_words_119 (by decide) ?_
      exact go_weak (A' := [(0, .ref x0), (1, .int (x1 + 1))]) (B' := []) ⟨rfl, rfl, trivial⟩ rfl (fun q h => by cases h) (ih (x1 + 1) u5)
end
def f_X0_words (self : Nat) (u : zM) : Option (Unit × zM) := f_X0_words_L2 self (fun u4 => f_X0_words_L90 self zFu 0 u4) zFu 0 u
set_option maxHeartbeats 4000000 in
theorem ct_X0_words (self : Nat) (t_self : kd self = 0) : zMet yX0_words cX0_words 4 (none) 1 40 rvV (obT) [.ref self] (f_X0_words self) := by
  refine zMet_of (A := [(0, .ref self)]) (B := []) (ini := false) RX0 rfl (by decide +kernel) (fun h => by cases h) (by simp [lg_sl, Value.category]) (by simp [lv_args, Value.category]) rfl (by simp [lv_args, Value.category]) fun u => ?_
  unfold f_X0_words
  refine go_iconst (pc := 0) (v := 0) dX0_words_0 (by decide) ?_
  refine go_istore_n (pc := 1) (j := 1) (i := 1) (A' := [(0, .ref self), (1, .int 0)]) rfl (by decide) rfl rfl rfl dX0_words_1 ?_
  refine go_weak (A' := [(0, .ref self), (1, .int 0)]) (B' := []) ⟨rfl, rfl, trivial⟩ rfl (fun q h => by cases h) (g_X0_words_L2 self _ t_self ?_ zFu 0 u)
  · intro u4
    refine go_iconst (pc := 88) (v := 0) dX0_words_88 (by decide) ?_
    refine go_istore_n (pc := 89) (j := 1) (i := 1) (A' := [(0, .ref self), (1, .int 0)]) rfl (by decide) rfl rfl rfl dX0_words_89 ?_
    exact go_weak (A' := [(0, .ref self), (1, .int 0)]) (B' := []) ⟨rfl, rfl, trivial⟩ rfl (fun q h => by cases h) (g_X0_words_L90 self t_self zFu 0 u4)

def f_X0_asksHouse (self : Nat) (p0 : Int32) (p1 : Nat) (u : zM) : Option (Int32 × zM) := bd (f_X0_ofHouse self p1 u) fun v1 u1 => bd (f_X0_value self p0 u1) fun v2 u2 => some (v2, u2)
set_option maxHeartbeats 4000000 in
theorem ct_X0_asksHouse (self : Nat) (p0 : Int32) (p1 : Nat) (t_self : kd self = 0) (t_p1 : kd p1 = 5) : zMet yX0_asksHouse cX0_asksHouse 3 (some .int) 5 129 rvI (obT) [.ref self, .int p0, .ref p1] (f_X0_asksHouse self p0 p1) := by
  refine zMet_of (A := [(0, .ref self), (1, .int p0), (2, .ref p1)]) (B := []) (ini := false) RX0 rfl (by decide +kernel) (fun h => by cases h) (by simp [lg_sl, Value.category]) (by simp [lv_args, Value.category]) rfl (by simp [lv_args, Value.category]) fun u => ?_
  unfold f_X0_asksHouse
  refine go_aload_n (pc := 0) (j := 0) (i := 0) dX0_asksHouse_0 rfl rfl ?_
  refine go_aload_n (pc := 1) (j := 2) (i := 2) dX0_asksHouse_1 rfl rfl ?_
  refine go_callVV (pc := 2) (ci := 0) (ct_X0_ofHouse self p1 t_self t_p1) lk_X0_383 rfl rfl rfl (by decide) t_self ⟨by decide, by decide⟩ (Nat.le_of_ble_eq_true rfl) dX0_asksHouse_2 rfl fun v1 u1 => ?_
  refine go_aload_n (pc := 5) (j := 0) (i := 0) dX0_asksHouse_5 rfl rfl ?_
  refine go_iload_n (pc := 6) (j := 1) (i := 1) dX0_asksHouse_6 rfl rfl ?_
  refine go_callVI (pc := 7) (ci := 0) (ct_X0_value self p0 t_self) lk_X0_263 rfl rfl rfl (by decide) t_self ⟨by decide, by decide⟩ (Nat.le_of_ble_eq_true rfl) dX0_asksHouse_7 rfl fun v2 u2 => ?_
  exact go_ireturn (pc := 10) rfl dX0_asksHouse_10

def f_X0_tells_L10 (x0 : Nat) (x1 : Int32) (k42 : zM → Option (Unit × zM)) : Nat → Int32 → zM → Option (Unit × zM)
  | 0, _, _ => none
  | n + 1, x2, u => if (mI u x0 15) ≤ x2 then (k42 u) else (lt (mR u x0 11) fun r1 => oB r1 fun n1 => ix x1 (mN u n1) (lt (mR u x0 0) fun r2 => oB r2 fun n2 => ix x2 (mN u n2) (lt (mR u n2 (xN x2)) fun r3 => oB r3 fun n3 => ix x1 (mN u n1) (lt (sI u n1 (xN x1) ((mI u n1 (xN x1)) + (mI u n3 4))) fun u1 => f_X0_tells_L10 x0 x1 k42 n (x2 + 1) u1))))
section
variable {c0 s0 : Nat} {tbv : List ExceptionTableEntry}
set_option maxHeartbeats 4000000 in
theorem g_X0_tells_L10 (x0 : Nat) (x1 : Int32) (k42 : zM → Option (Unit × zM)) (t_x0 : kd x0 = 0) (hk42 : ∀ (u : zM), Go RX0 cX0_tells 3 (none) false 1 0 [] (obT) (zQ rvV) c0 s0 42 [(0, .ref x0), (1, .int x1)] [] [] u (k42 u)) : ∀ (n : Nat) (x2 : Int32) (u : zM), Go RX0 cX0_tells 3 (none) false 1 0 [] (obT) (zQ rvV) c0 s0 10 [(0, .ref x0), (1, .int x1), (2, .int x2)] [] [] u (f_X0_tells_L10 x0 x1 k42 n x2 u) := by
  intro n
  induction n with
  | zero => intros; exact go_none
  | succ n ih =>
    intro x2 u
    unfold f_X0_tells_L10
    refine go_iload_n (pc := 10) (j := 2) (i := 2) dX0_tells_10 rfl rfl ?_
    refine go_aload_n (pc := 11) (j := 0) (i := 0) dX0_tells_11 rfl rfl ?_
    refine go_getI (pc := 12) (n := x0) (ci := 0) (k := 15) fa_X0_112_0 t_x0 rfl dX0_tells_12 ?_
    refine go_icmp_ge (pc := 15) (tgt := 42) dX0_tells_15 (by decide) (fun h1 => ?_) (fun h1 => ?_)
    · exact go_weak (A' := [(0, .ref x0), (1, .int x1)]) (B' := []) ⟨rfl, rfl, trivial⟩ rfl (fun q h => by cases h) (hk42 u)
    · refine go_aload_n (pc := 18) (j := 0) (i := 0) dX0_tells_18 rfl rfl ?_
      refine go_getR (pc := 19) (n := x0) (ci := 0) (k := 11) (t := 13) fa_X0_71_0 t_x0 rfl dX0_tells_19 fun r1 t_r1 => ?_
      refine go_iload_n (pc := 22) (j := 1) (i := 1) dX0_tells_22 rfl rfl ?_
      refine go_oB fun n1 e_n1 => ?_
      have t_n1 := t_r1 n1 e_n1
      subst e_n1
      refine go_dup2 (pc := 23) dX0_tells_23 ?_
      refine go_iald (pc := 24) t_n1 dX0_tells_24 ?_
      refine go_aload_n (pc := 25) (j := 0) (i := 0) dX0_tells_25 rfl rfl ?_
      refine go_getR (pc := 26) (n := x0) (ci := 0) (k := 0) (t := 17) fa_X0_24_0 t_x0 rfl dX0_tells_26 fun r2 t_r2 => ?_
      refine go_iload_n (pc := 29) (j := 2) (i := 2) dX0_tells_29 rfl rfl ?_
      refine go_oB fun n2 e_n2 => ?_
      have t_n2 := t_r2 n2 e_n2
      subst e_n2
      refine go_aald (pc := 30) (n := n2) (ci := 17) (t := 4) (by decide) (by decide) t_n2 rfl dX0_tells_30 fun r3 t_r3 => ?_
      refine go_oB fun n3 e_n3 => ?_
      have t_n3 := t_r3 n3 e_n3
      subst e_n3
      refine go_getI (pc := 31) (n := n3) (ci := 4) (k := 4) fa_X0_180_4 t_n3 rfl dX0_tells_31 ?_
      refine go_iadd (pc := 34) dX0_tells_34 ?_
      refine go_iast (pc := 35) t_n1 dX0_tells_35 fun u1 => ?_
      refine go_iinc (pc := 36) (i := 2) (w := 1) (A' := [(0, .ref x0), (1, .int x1), (2, .int (x2 + 1))]) rfl (by decide) (by decide) rfl rfl rfl dX0_tells_36 ?_
      refine go_goto (pc := 39) (tgt := 10) dX0_tells_39 (by decide) ?_
      exact go_weak (A' := [(0, .ref x0), (1, .int x1), (2, .int (x2 + 1))]) (B' := []) ⟨rfl, rfl, rfl, trivial⟩ rfl (fun q h => by cases h) (ih (x2 + 1) u1)
end
def f_X0_tells_L56 (x0 : Nat) (x1 : Int32) (k90 : zM → Option (Unit × zM)) : Nat → Int32 → zM → Option (Unit × zM)
  | 0, _, _ => none
  | n + 1, x2, u => if (mI u x0 17) ≤ x2 then (k90 u) else (lt (mR u x0 11) fun r5 => oB r5 fun n5 => ix (x1 + 2) (mN u n5) (lt (mR u x0 2) fun r6 => oB r6 fun n6 => ix x2 (mN u n6) (lt (mR u n6 (xN x2)) fun r7 => oB r7 fun n7 => ix (x1 + 2) (mN u n5) (lt (sI u n5 (xN (x1 + 2)) ((mI u n5 (xN (x1 + 2))) + (mI u n7 6))) fun u4 => f_X0_tells_L56 x0 x1 k90 n (x2 + 1) u4))))
section
variable {c0 s0 : Nat} {tbv : List ExceptionTableEntry}
set_option maxHeartbeats 4000000 in
theorem g_X0_tells_L56 (x0 : Nat) (x1 : Int32) (k90 : zM → Option (Unit × zM)) (t_x0 : kd x0 = 0) (hk90 : ∀ (u : zM), Go RX0 cX0_tells 3 (none) false 1 0 [] (obT) (zQ rvV) c0 s0 90 [(0, .ref x0), (1, .int x1)] [] [] u (k90 u)) : ∀ (n : Nat) (x2 : Int32) (u : zM), Go RX0 cX0_tells 3 (none) false 1 0 [] (obT) (zQ rvV) c0 s0 56 [(0, .ref x0), (1, .int x1), (2, .int x2)] [] [] u (f_X0_tells_L56 x0 x1 k90 n x2 u) := by
  intro n
  induction n with
  | zero => intros; exact go_none
  | succ n ih =>
    intro x2 u
    unfold f_X0_tells_L56
    refine go_iload_n (pc := 56) (j := 2) (i := 2) dX0_tells_56 rfl rfl ?_
    refine go_aload_n (pc := 57) (j := 0) (i := 0) dX0_tells_57 rfl rfl ?_
    refine go_getI (pc := 58) (n := x0) (ci := 0) (k := 17) fa_X0_123_0 t_x0 rfl dX0_tells_58 ?_
    refine go_icmp_ge (pc := 61) (tgt := 90) dX0_tells_61 (by decide) (fun h2 => ?_) (fun h2 => ?_)
    · exact go_weak (A' := [(0, .ref x0), (1, .int x1)]) (B' := []) ⟨rfl, rfl, trivial⟩ rfl (fun q h => by cases h) (hk90 u)
    · refine go_aload_n (pc := 64) (j := 0) (i := 0) dX0_tells_64 rfl rfl ?_
      refine go_getR (pc := 65) (n := x0) (ci := 0) (k := 11) (t := 13) fa_X0_71_0 t_x0 rfl dX0_tells_65 fun r5 t_r5 => ?_
      refine go_iload_n (pc := 68) (j := 1) (i := 1) dX0_tells_68 rfl rfl ?_
      refine go_iconst (pc := 69) (v := 2) dX0_tells_69 (by decide) ?_
      refine go_iadd (pc := 70) dX0_tells_70 ?_
      refine go_oB fun n5 e_n5 => ?_
      have t_n5 := t_r5 n5 e_n5
      subst e_n5
      refine go_dup2 (pc := 71) dX0_tells_71 ?_
      refine go_iald (pc := 72) t_n5 dX0_tells_72 ?_
      refine go_aload_n (pc := 73) (j := 0) (i := 0) dX0_tells_73 rfl rfl ?_
      refine go_getR (pc := 74) (n := x0) (ci := 0) (k := 2) (t := 19) fa_X0_36_0 t_x0 rfl dX0_tells_74 fun r6 t_r6 => ?_
      refine go_iload_n (pc := 77) (j := 2) (i := 2) dX0_tells_77 rfl rfl ?_
      refine go_oB fun n6 e_n6 => ?_
      have t_n6 := t_r6 n6 e_n6
      subst e_n6
      refine go_aald (pc := 78) (n := n6) (ci := 19) (t := 8) (by decide) (by decide) t_n6 rfl dX0_tells_78 fun r7 t_r7 => ?_
      refine go_oB fun n7 e_n7 => ?_
      have t_n7 := t_r7 n7 e_n7
      subst e_n7
      refine go_getI (pc := 79) (n := n7) (ci := 8) (k := 6) fa_X0_308_8 t_n7 rfl dX0_tells_79 ?_
      refine go_iadd (pc := 82) dX0_tells_82 ?_
      refine go_iast (pc := 83) t_n5 dX0_tells_83 fun u4 => ?_
      refine go_iinc (pc := 84) (i := 2) (w := 1) (A' := [(0, .ref x0), (1, .int x1), (2, .int (x2 + 1))]) rfl (by decide) (by decide) rfl rfl rfl dX0_tells_84 ?_
      refine go_goto (pc := 87) (tgt := 56) dX0_tells_87 (by decide) ?_
      exact go_weak (A' := [(0, .ref x0), (1, .int x1), (2, .int (x2 + 1))]) (B' := []) ⟨rfl, rfl, rfl, trivial⟩ rfl (fun q h => by cases h) (ih (x2 + 1) u4)
end
def f_X0_tells (self : Nat) (u : zM) : Option (Unit × zM) := f_X0_tells_L10 self (6 * (mI u self 14)) (fun u2 => lt (mR u2 self 11) fun r4 => oB r4 fun n4 => ix ((6 * (mI u self 14)) + 1) (mN u2 n4) (lt (sI u2 n4 (xN ((6 * (mI u self 14)) + 1)) (mI u2 self 26)) fun u3 => f_X0_tells_L56 self (6 * (mI u self 14)) (fun u5 => lt (mR u5 self 11) fun r8 => oB r8 fun n8 => ix ((6 * (mI u self 14)) + 3) (mN u5 n8) (lt (sI u5 n8 (xN ((6 * (mI u self 14)) + 3)) (mI u5 self 23)) fun u6 => lt (mR u6 self 11) fun r9 => oB r9 fun n9 => ix ((6 * (mI u self 14)) + 4) (mN u6 n9) (lt (sI u6 n9 (xN ((6 * (mI u self 14)) + 4)) (mI u6 self 24)) fun u7 => lt (mR u7 self 11) fun r10 => oB r10 fun n10 => ix ((6 * (mI u self 14)) + 5) (mN u7 n10) (lt (sI u7 n10 (xN ((6 * (mI u self 14)) + 5)) (mI u7 self 25)) fun u8 => some ((), u8))))) zFu 0 u3)) zFu 0 u
set_option maxHeartbeats 4000000 in
theorem ct_X0_tells (self : Nat) (t_self : kd self = 0) : zMet yX0_tells cX0_tells 3 (none) 1 0 rvV (obT) [.ref self] (f_X0_tells self) := by
  refine zMet_of (A := [(0, .ref self)]) (B := []) (ini := false) RX0 rfl (by decide +kernel) (fun h => by cases h) (by simp [lg_sl, Value.category]) (by simp [lv_args, Value.category]) rfl (by simp [lv_args, Value.category]) fun u => ?_
  unfold f_X0_tells
  refine go_bipush (pc := 0) (v := 6) dX0_tells_0 (by decide) ?_
  refine go_aload_n (pc := 2) (j := 0) (i := 0) dX0_tells_2 rfl rfl ?_
  refine go_getI (pc := 3) (n := self) (ci := 0) (k := 14) fa_X0_151_0 t_self rfl dX0_tells_3 ?_
  refine go_imul (pc := 6) dX0_tells_6 ?_
  refine go_istore_n (pc := 7) (j := 1) (i := 1) (A' := [(0, .ref self), (1, .int (6 * (mI u self 14)))]) rfl (by decide) rfl rfl rfl dX0_tells_7 ?_
  refine go_iconst (pc := 8) (v := 0) dX0_tells_8 (by decide) ?_
  refine go_istore_n (pc := 9) (j := 2) (i := 2) (A' := [(0, .ref self), (1, .int (6 * (mI u self 14))), (2, .int 0)]) rfl (by decide) rfl rfl rfl dX0_tells_9 ?_
  refine go_weak (A' := [(0, .ref self), (1, .int (6 * (mI u self 14))), (2, .int 0)]) (B' := []) ⟨rfl, rfl, rfl, trivial⟩ rfl (fun q h => by cases h) (g_X0_tells_L10 self (6 * (mI u self 14)) _ t_self ?_ zFu 0 u)
  · intro u2
    refine go_aload_n (pc := 42) (j := 0) (i := 0) dX0_tells_42 rfl rfl ?_
    refine go_getR (pc := 43) (n := self) (ci := 0) (k := 11) (t := 13) fa_X0_71_0 t_self rfl dX0_tells_43 fun r4 t_r4 => ?_
    refine go_iload_n (pc := 46) (j := 1) (i := 1) dX0_tells_46 rfl rfl ?_
    refine go_iconst (pc := 47) (v := 1) dX0_tells_47 (by decide) ?_
    refine go_iadd (pc := 48) dX0_tells_48 ?_
    refine go_aload_n (pc := 49) (j := 0) (i := 0) dX0_tells_49 rfl rfl ?_
    refine go_getI (pc := 50) (n := self) (ci := 0) (k := 26) fa_X0_186_0 t_self rfl dX0_tells_50 ?_
    refine go_oB fun n4 e_n4 => ?_
    have t_n4 := t_r4 n4 e_n4
    subst e_n4
    refine go_iast (pc := 53) t_n4 dX0_tells_53 fun u3 => ?_
    refine go_iconst (pc := 54) (v := 0) dX0_tells_54 (by decide) ?_
    refine go_istore_n (pc := 55) (j := 2) (i := 2) (A' := [(0, .ref self), (1, .int (6 * (mI u self 14))), (2, .int 0)]) rfl (by decide) rfl rfl rfl dX0_tells_55 ?_
    refine go_weak (A' := [(0, .ref self), (1, .int (6 * (mI u self 14))), (2, .int 0)]) (B' := []) ⟨rfl, rfl, rfl, trivial⟩ rfl (fun q h => by cases h) (g_X0_tells_L56 self (6 * (mI u self 14)) _ t_self ?_ zFu 0 u3)
    · intro u5
      refine go_aload_n (pc := 90) (j := 0) (i := 0) dX0_tells_90 rfl rfl ?_
      refine go_getR (pc := 91) (n := self) (ci := 0) (k := 11) (t := 13) fa_X0_71_0 t_self rfl dX0_tells_91 fun r8 t_r8 => ?_
      refine go_iload_n (pc := 94) (j := 1) (i := 1) dX0_tells_94 rfl rfl ?_
      refine go_iconst (pc := 95) (v := 3) dX0_tells_95 (by decide) ?_
      refine go_iadd (pc := 96) dX0_tells_96 ?_
      refine go_aload_n (pc := 97) (j := 0) (i := 0) dX0_tells_97 rfl rfl ?_
      refine go_getI (pc := 98) (n := self) (ci := 0) (k := 23) fa_X0_311_0 t_self rfl dX0_tells_98 ?_
      refine go_oB fun n8 e_n8 => ?_
      have t_n8 := t_r8 n8 e_n8
      subst e_n8
      refine go_iast (pc := 101) t_n8 dX0_tells_101 fun u6 => ?_
      refine go_aload_n (pc := 102) (j := 0) (i := 0) dX0_tells_102 rfl rfl ?_
      refine go_getR (pc := 103) (n := self) (ci := 0) (k := 11) (t := 13) fa_X0_71_0 t_self rfl dX0_tells_103 fun r9 t_r9 => ?_
      refine go_iload_n (pc := 106) (j := 1) (i := 1) dX0_tells_106 rfl rfl ?_
      refine go_iconst (pc := 107) (v := 4) dX0_tells_107 (by decide) ?_
      refine go_iadd (pc := 108) dX0_tells_108 ?_
      refine go_aload_n (pc := 109) (j := 0) (i := 0) dX0_tells_109 rfl rfl ?_
      refine go_getI (pc := 110) (n := self) (ci := 0) (k := 24) fa_X0_314_0 t_self rfl dX0_tells_110 ?_
      refine go_oB fun n9 e_n9 => ?_
      have t_n9 := t_r9 n9 e_n9
      subst e_n9
      refine go_iast (pc := 113) t_n9 dX0_tells_113 fun u7 => ?_
      refine go_aload_n (pc := 114) (j := 0) (i := 0) dX0_tells_114 rfl rfl ?_
      refine go_getR (pc := 115) (n := self) (ci := 0) (k := 11) (t := 13) fa_X0_71_0 t_self rfl dX0_tells_115 fun r10 t_r10 => ?_
      refine go_iload_n (pc := 118) (j := 1) (i := 1) dX0_tells_118 rfl rfl ?_
      refine go_iconst (pc := 119) (v := 5) dX0_tells_119 (by decide) ?_
      refine go_iadd (pc := 120) dX0_tells_120 ?_
      refine go_aload_n (pc := 121) (j := 0) (i := 0) dX0_tells_121 rfl rfl ?_
      refine go_getI (pc := 122) (n := self) (ci := 0) (k := 25) fa_X0_254_0 t_self rfl dX0_tells_122 ?_
      refine go_oB fun n10 e_n10 => ?_
      have t_n10 := t_r10 n10 e_n10
      subst e_n10
      refine go_iast (pc := 125) t_n10 dX0_tells_125 fun u8 => ?_
      exact go_vreturn (pc := 126) rfl dX0_tells_126

def f_X0_ends_L7 (x0 : Nat) (k31 : zM → Option (Unit × zM)) : Nat → Int32 → zM → Option (Unit × zM)
  | 0, _, _ => none
  | n + 1, x1, u => if (mI u x0 16) ≤ x1 then (k31 u) else (lt (mR u x0 1) fun r1 => oB r1 fun n1 => ix x1 (mN u n1) (lt (mR u n1 (xN x1)) fun r2 => oB r2 fun n2 => bd (f_X0_spins x0 n2 u) fun v1 u2 => f_X0_ends_L7 x0 k31 n (x1 + 1) u2))
section
variable {c0 s0 : Nat} {tbv : List ExceptionTableEntry}
set_option maxHeartbeats 4000000 in
theorem g_X0_ends_L7 (x0 : Nat) (k31 : zM → Option (Unit × zM)) (t_x0 : kd x0 = 0) (hk31 : ∀ (u : zM), Go RX0 cX0_ends 2 (none) false 8 200 [] (obT) (zQ rvV) c0 s0 31 [(0, .ref x0)] [] [] u (k31 u)) : ∀ (n : Nat) (x1 : Int32) (u : zM), Go RX0 cX0_ends 2 (none) false 8 200 [] (obT) (zQ rvV) c0 s0 7 [(0, .ref x0), (1, .int x1)] [] [] u (f_X0_ends_L7 x0 k31 n x1 u) := by
  intro n
  induction n with
  | zero => intros; exact go_none
  | succ n ih =>
    intro x1 u
    unfold f_X0_ends_L7
    refine go_iload_n (pc := 7) (j := 1) (i := 1) dX0_ends_7 rfl rfl ?_
    refine go_aload_n (pc := 8) (j := 0) (i := 0) dX0_ends_8 rfl rfl ?_
    refine go_getI (pc := 9) (n := x0) (ci := 0) (k := 16) fa_X0_120_0 t_x0 rfl dX0_ends_9 ?_
    refine go_icmp_ge (pc := 12) (tgt := 31) dX0_ends_12 (by decide) (fun h1 => ?_) (fun h1 => ?_)
    · exact go_weak (A' := [(0, .ref x0)]) (B' := []) ⟨rfl, trivial⟩ rfl (fun q h => by cases h) (hk31 u)
    · refine go_aload_n (pc := 15) (j := 0) (i := 0) dX0_ends_15 rfl rfl ?_
      refine go_aload_n (pc := 16) (j := 0) (i := 0) dX0_ends_16 rfl rfl ?_
      refine go_getR (pc := 17) (n := x0) (ci := 0) (k := 1) (t := 18) fa_X0_30_0 t_x0 rfl dX0_ends_17 fun r1 t_r1 => ?_
      refine go_iload_n (pc := 20) (j := 1) (i := 1) dX0_ends_20 rfl rfl ?_
      refine go_oB fun n1 e_n1 => ?_
      have t_n1 := t_r1 n1 e_n1
      subst e_n1
      refine go_aald (pc := 21) (n := n1) (ci := 18) (t := 5) (by decide) (by decide) t_n1 rfl dX0_ends_21 fun r2 t_r2 => ?_
      refine go_oB fun n2 e_n2 => ?_
      have t_n2 := t_r2 n2 e_n2
      subst e_n2
      refine go_callVV (pc := 22) (ci := 0) (ct_X0_spins x0 n2 t_x0 t_n2) lk_X0_189 rfl rfl rfl (by decide) t_x0 ⟨by decide, by decide⟩ (Nat.le_of_ble_eq_true rfl) dX0_ends_22 rfl fun v1 u2 => ?_
      refine go_iinc (pc := 25) (i := 1) (w := 1) (A' := [(0, .ref x0), (1, .int (x1 + 1))]) rfl (by decide) (by decide) rfl rfl rfl dX0_ends_25 ?_
      refine go_goto (pc := 28) (tgt := 7) dX0_ends_28 (by decide) ?_
      exact go_weak (A' := [(0, .ref x0), (1, .int (x1 + 1))]) (B' := []) ⟨rfl, rfl, trivial⟩ rfl (fun q h => by cases h) (ih (x1 + 1) u2)
end
def f_X0_ends_L33 (x0 : Nat) (k73 : zM → Option (Unit × zM)) : Nat → Int32 → zM → Option (Unit × zM)
  | 0, _, _ => none
  | n + 1, x1, u => if (mI u x0 16) ≤ x1 then (k73 u) else (lt (mR u x0 1) fun r3 => oB r3 fun n3 => ix x1 (mN u n3) (lt (mR u n3 (xN x1)) fun r4 => oB r4 fun n4 => bd (f_X5_needs n4 (mI u x0 14) u) fun v2 u4 => lt (fun (u5 : zM) => f_X0_ends_L33 x0 k73 n (x1 + 1) u5) fun j1 => if v2 = 0 then (j1 u4) else (lt (mR u4 x0 1) fun r5 => oB r5 fun n5 => ix x1 (mN u4 n5) (lt (mR u4 n5 (xN x1)) fun r6 => oB r6 fun n6 => bd (f_X0_buys x0 n6 u4) fun v3 u6 => j1 u6))))
section
variable {c0 s0 : Nat} {tbv : List ExceptionTableEntry}
set_option maxHeartbeats 4000000 in
theorem g_X0_ends_L33 (x0 : Nat) (k73 : zM → Option (Unit × zM)) (t_x0 : kd x0 = 0) (hk73 : ∀ (u : zM), Go RX0 cX0_ends 2 (none) false 8 200 [] (obT) (zQ rvV) c0 s0 73 [(0, .ref x0)] [] [] u (k73 u)) : ∀ (n : Nat) (x1 : Int32) (u : zM), Go RX0 cX0_ends 2 (none) false 8 200 [] (obT) (zQ rvV) c0 s0 33 [(0, .ref x0), (1, .int x1)] [] [] u (f_X0_ends_L33 x0 k73 n x1 u) := by
  intro n
  induction n with
  | zero => intros; exact go_none
  | succ n ih =>
    intro x1 u
    unfold f_X0_ends_L33
    refine go_iload_n (pc := 33) (j := 1) (i := 1) dX0_ends_33 rfl rfl ?_
    refine go_aload_n (pc := 34) (j := 0) (i := 0) dX0_ends_34 rfl rfl ?_
    refine go_getI (pc := 35) (n := x0) (ci := 0) (k := 16) fa_X0_120_0 t_x0 rfl dX0_ends_35 ?_
    refine go_icmp_ge (pc := 38) (tgt := 73) dX0_ends_38 (by decide) (fun h2 => ?_) (fun h2 => ?_)
    · exact go_weak (A' := [(0, .ref x0)]) (B' := []) ⟨rfl, trivial⟩ rfl (fun q h => by cases h) (hk73 u)
    · refine go_aload_n (pc := 41) (j := 0) (i := 0) dX0_ends_41 rfl rfl ?_
      refine go_getR (pc := 42) (n := x0) (ci := 0) (k := 1) (t := 18) fa_X0_30_0 t_x0 rfl dX0_ends_42 fun r3 t_r3 => ?_
      refine go_iload_n (pc := 45) (j := 1) (i := 1) dX0_ends_45 rfl rfl ?_
      refine go_oB fun n3 e_n3 => ?_
      have t_n3 := t_r3 n3 e_n3
      subst e_n3
      refine go_aald (pc := 46) (n := n3) (ci := 18) (t := 5) (by decide) (by decide) t_n3 rfl dX0_ends_46 fun r4 t_r4 => ?_
      refine go_aload_n (pc := 47) (j := 0) (i := 0) dX0_ends_47 rfl rfl ?_
      refine go_getI (pc := 48) (n := x0) (ci := 0) (k := 14) fa_X0_151_0 t_x0 rfl dX0_ends_48 ?_
      refine go_oB fun n4 e_n4 => ?_
      have t_n4 := t_r4 n4 e_n4
      subst e_n4
      refine go_callVI (pc := 51) (ci := 5) (ct_X5_needs n4 (mI u x0 14) t_n4) lk_X0_193 rfl rfl rfl (by decide) t_n4 ⟨by decide, by decide⟩ (Nat.le_of_ble_eq_true rfl) dX0_ends_51 rfl fun v2 u4 => ?_
      refine go_join0 (pcx := 67) ([(0, .ref x0), (1, .int x1)]) ([]) ([]) (True) (fun u5 _ => ?_) (fun j1 hj1 => ?_)
      · refine go_iinc (pc := 67) (i := 1) (w := 1) (A' := [(0, .ref x0), (1, .int (x1 + 1))]) rfl (by decide) (by decide) rfl rfl rfl dX0_ends_67 ?_
        refine go_goto (pc := 70) (tgt := 33) dX0_ends_70 (by decide) ?_
        exact go_weak (A' := [(0, .ref x0), (1, .int (x1 + 1))]) (B' := []) ⟨rfl, rfl, trivial⟩ rfl (fun q h => by cases h) (ih (x1 + 1) u5)
      · refine go_if_eq (pc := 54) (tgt := 67) dX0_ends_54 (by decide) (fun h3 => ?_) (fun h3 => ?_)
        · exact go_weak (A' := [(0, .ref x0), (1, .int x1)]) (B' := []) ⟨rfl, rfl, trivial⟩ rfl (fun q h => by cases h) (hj1 u4 trivial)
        · refine go_aload_n (pc := 57) (j := 0) (i := 0) dX0_ends_57 rfl rfl ?_
          refine go_aload_n (pc := 58) (j := 0) (i := 0) dX0_ends_58 rfl rfl ?_
          refine go_getR (pc := 59) (n := x0) (ci := 0) (k := 1) (t := 18) fa_X0_30_0 t_x0 rfl dX0_ends_59 fun r5 t_r5 => ?_
          refine go_iload_n (pc := 62) (j := 1) (i := 1) dX0_ends_62 rfl rfl ?_
          refine go_oB fun n5 e_n5 => ?_
          have t_n5 := t_r5 n5 e_n5
          subst e_n5
          refine go_aald (pc := 63) (n := n5) (ci := 18) (t := 5) (by decide) (by decide) t_n5 rfl dX0_ends_63 fun r6 t_r6 => ?_
          refine go_oB fun n6 e_n6 => ?_
          have t_n6 := t_r6 n6 e_n6
          subst e_n6
          refine go_callVV (pc := 64) (ci := 0) (ct_X0_buys x0 n6 t_x0 t_n6) lk_X0_196 rfl rfl rfl (by decide) t_x0 ⟨by decide, by decide⟩ (Nat.le_of_ble_eq_true rfl) dX0_ends_64 rfl fun v3 u6 => ?_
          exact go_weak (A' := [(0, .ref x0), (1, .int x1)]) (B' := []) ⟨rfl, rfl, trivial⟩ rfl (fun q h => by cases h) (hj1 u6 trivial)
end
def f_X0_ends_L187 (x0 : Nat) (k231 : zM → Option (Unit × zM)) : Nat → Int32 → zM → Option (Unit × zM)
  | 0, _, _ => none
  | n + 1, x1, u => if 8 ≤ x1 then (k231 u) else (lt (mR u x0 0) fun r7 => oB r7 fun n7 => ix x1 (mN u n7) (lt (mR u n7 (xN x1)) fun r8 => lt (fun (u12 : zM) => f_X0_ends_L187 x0 k231 n (x1 + 1) u12) fun j3 => oC r8 (j3 u) fun n8 => lt (mR u x0 0) fun r9 => oB r9 fun n9 => ix x1 (mN u n9) (lt (mR u n9 (xN x1)) fun r10 => oB r10 fun n10 => lt (mR u n10 3) fun r11 => lt (mR u x0 0) fun r12 => oB r12 fun n11 => ix x1 (mN u n11) (lt (mR u n11 (xN x1)) fun r13 => oB r13 fun n12 => oB r11 fun n13 => ix (mI u x0 14) (mN u n13) (lt (sI u n13 (xN (mI u x0 14)) (mI u n12 9)) fun u13 => j3 u13)))))
section
variable {c0 s0 : Nat} {tbv : List ExceptionTableEntry}
set_option maxHeartbeats 4000000 in
theorem g_X0_ends_L187 (x0 : Nat) (k231 : zM → Option (Unit × zM)) (t_x0 : kd x0 = 0) (hk231 : ∀ (u : zM), Go RX0 cX0_ends 2 (none) false 8 200 [] (obT) (zQ rvV) c0 s0 231 [(0, .ref x0)] [] [] u (k231 u)) : ∀ (n : Nat) (x1 : Int32) (u : zM), Go RX0 cX0_ends 2 (none) false 8 200 [] (obT) (zQ rvV) c0 s0 187 [(0, .ref x0), (1, .int x1)] [] [] u (f_X0_ends_L187 x0 k231 n x1 u) := by
  intro n
  induction n with
  | zero => intros; exact go_none
  | succ n ih =>
    intro x1 u
    unfold f_X0_ends_L187
    refine go_iload_n (pc := 187) (j := 1) (i := 1) dX0_ends_187 rfl rfl ?_
    refine go_bipush (pc := 188) (v := 8) dX0_ends_188 (by decide) ?_
    refine go_icmp_ge (pc := 190) (tgt := 231) dX0_ends_190 (by decide) (fun h4 => ?_) (fun h4 => ?_)
    · exact go_weak (A' := [(0, .ref x0)]) (B' := []) ⟨rfl, trivial⟩ rfl (fun q h => by cases h) (hk231 u)
    · refine go_aload_n (pc := 193) (j := 0) (i := 0) dX0_ends_193 rfl rfl ?_
      refine go_getR (pc := 194) (n := x0) (ci := 0) (k := 0) (t := 17) fa_X0_24_0 t_x0 rfl dX0_ends_194 fun r7 t_r7 => ?_
      refine go_iload_n (pc := 197) (j := 1) (i := 1) dX0_ends_197 rfl rfl ?_
      refine go_oB fun n7 e_n7 => ?_
      have t_n7 := t_r7 n7 e_n7
      subst e_n7
      refine go_aald (pc := 198) (n := n7) (ci := 17) (t := 4) (by decide) (by decide) t_n7 rfl dX0_ends_198 fun r8 t_r8 => ?_
      refine go_join0 (pcx := 225) ([(0, .ref x0), (1, .int x1)]) ([]) ([]) (True) (fun u12 _ => ?_) (fun j3 hj3 => ?_)
      · refine go_iinc (pc := 225) (i := 1) (w := 1) (A' := [(0, .ref x0), (1, .int (x1 + 1))]) rfl (by decide) (by decide) rfl rfl rfl dX0_ends_225 ?_
        refine go_goto (pc := 228) (tgt := 187) dX0_ends_228 (by decide) ?_
        exact go_weak (A' := [(0, .ref x0), (1, .int (x1 + 1))]) (B' := []) ⟨rfl, rfl, trivial⟩ rfl (fun q h => by cases h) (ih (x1 + 1) u12)
      · refine go_ifnull (pc := 199) (tgt := 225) dX0_ends_199 (by decide) (fun e_n8 => ?_) (fun n8 e_n8 => ?_)
        · subst e_n8
          exact go_weak (A' := [(0, .ref x0), (1, .int x1)]) (B' := []) ⟨rfl, rfl, trivial⟩ rfl (fun q h => by cases h) (hj3 u trivial)
        · have t_n8 := t_r8 n8 e_n8
          subst e_n8
          refine go_aload_n (pc := 202) (j := 0) (i := 0) dX0_ends_202 rfl rfl ?_
          refine go_getR (pc := 203) (n := x0) (ci := 0) (k := 0) (t := 17) fa_X0_24_0 t_x0 rfl dX0_ends_203 fun r9 t_r9 => ?_
          refine go_iload_n (pc := 206) (j := 1) (i := 1) dX0_ends_206 rfl rfl ?_
          refine go_oB fun n9 e_n9 => ?_
          have t_n9 := t_r9 n9 e_n9
          subst e_n9
          refine go_aald (pc := 207) (n := n9) (ci := 17) (t := 4) (by decide) (by decide) t_n9 rfl dX0_ends_207 fun r10 t_r10 => ?_
          refine go_oB fun n10 e_n10 => ?_
          have t_n10 := t_r10 n10 e_n10
          subst e_n10
          refine go_getR (pc := 208) (n := n10) (ci := 4) (k := 3) (t := 13) fa_X0_221_4 t_n10 rfl dX0_ends_208 fun r11 t_r11 => ?_
          refine go_aload_n (pc := 211) (j := 0) (i := 0) dX0_ends_211 rfl rfl ?_
          refine go_getI (pc := 212) (n := x0) (ci := 0) (k := 14) fa_X0_151_0 t_x0 rfl dX0_ends_212 ?_
          refine go_aload_n (pc := 215) (j := 0) (i := 0) dX0_ends_215 rfl rfl ?_
          refine go_getR (pc := 216) (n := x0) (ci := 0) (k := 0) (t := 17) fa_X0_24_0 t_x0 rfl dX0_ends_216 fun r12 t_r12 => ?_
          refine go_iload_n (pc := 219) (j := 1) (i := 1) dX0_ends_219 rfl rfl ?_
          refine go_oB fun n11 e_n11 => ?_
          have t_n11 := t_r12 n11 e_n11
          subst e_n11
          refine go_aald (pc := 220) (n := n11) (ci := 17) (t := 4) (by decide) (by decide) t_n11 rfl dX0_ends_220 fun r13 t_r13 => ?_
          refine go_oB fun n12 e_n12 => ?_
          have t_n12 := t_r13 n12 e_n12
          subst e_n12
          refine go_getI (pc := 221) (n := n12) (ci := 4) (k := 9) fa_X0_224_4 t_n12 rfl dX0_ends_221 ?_
          refine go_oB fun n13 e_n13 => ?_
          have t_n13 := t_r11 n13 e_n13
          subst e_n13
          refine go_iast (pc := 224) t_n13 dX0_ends_224 fun u13 => ?_
          exact go_weak (A' := [(0, .ref x0), (1, .int x1)]) (B' := []) ⟨rfl, rfl, trivial⟩ rfl (fun q h => by cases h) (hj3 u13 trivial)
end
def f_X0_ends_L233 (x0 : Nat) : Nat → Int32 → zM → Option (Unit × zM)
  | 0, _, _ => none
  | n + 1, x1, u => if (mI u x0 16) ≤ x1 then (some ((), u)) else (lt (mR u x0 1) fun r14 => oB r14 fun n14 => ix x1 (mN u n14) (lt (mR u n14 (xN x1)) fun r15 => oB r15 fun n15 => lt (mR u n15 15) fun r16 => lt (fun (u15 : zM) => f_X0_ends_L233 x0 n (x1 + 1) u15) fun j4 => oC r16 (j4 u) fun n16 => lt (mR u x0 1) fun r17 => oB r17 fun n17 => ix x1 (mN u n17) (lt (mR u n17 (xN x1)) fun r18 => oB r18 fun n18 => lt (mR u n18 15) fun r19 => oB r19 fun n19 => lt (sI u n19 3 0) fun u16 => j4 u16)))
section
variable {c0 s0 : Nat} {tbv : List ExceptionTableEntry}
set_option maxHeartbeats 4000000 in
theorem g_X0_ends_L233 (x0 : Nat) (t_x0 : kd x0 = 0) : ∀ (n : Nat) (x1 : Int32) (u : zM), Go RX0 cX0_ends 2 (none) false 8 200 [] (obT) (zQ rvV) c0 s0 233 [(0, .ref x0), (1, .int x1)] [] [] u (f_X0_ends_L233 x0 n x1 u) := by
  intro n
  induction n with
  | zero => intros; exact go_none
  | succ n ih =>
    intro x1 u
    unfold f_X0_ends_L233
    refine go_iload_n (pc := 233) (j := 1) (i := 1) dX0_ends_233 rfl rfl ?_
    refine go_aload_n (pc := 234) (j := 0) (i := 0) dX0_ends_234 rfl rfl ?_
    refine go_getI (pc := 235) (n := x0) (ci := 0) (k := 16) fa_X0_120_0 t_x0 rfl dX0_ends_235 ?_
    refine go_icmp_ge (pc := 238) (tgt := 272) dX0_ends_238 (by decide) (fun h5 => ?_) (fun h5 => ?_)
    · exact go_vreturn (pc := 272) rfl dX0_ends_272
    · refine go_aload_n (pc := 241) (j := 0) (i := 0) dX0_ends_241 rfl rfl ?_
      refine go_getR (pc := 242) (n := x0) (ci := 0) (k := 1) (t := 18) fa_X0_30_0 t_x0 rfl dX0_ends_242 fun r14 t_r14 => ?_
      refine go_iload_n (pc := 245) (j := 1) (i := 1) dX0_ends_245 rfl rfl ?_
      refine go_oB fun n14 e_n14 => ?_
      have t_n14 := t_r14 n14 e_n14
      subst e_n14
      refine go_aald (pc := 246) (n := n14) (ci := 18) (t := 5) (by decide) (by decide) t_n14 rfl dX0_ends_246 fun r15 t_r15 => ?_
      refine go_oB fun n15 e_n15 => ?_
      have t_n15 := t_r15 n15 e_n15
      subst e_n15
      refine go_getR (pc := 247) (n := n15) (ci := 5) (k := 15) (t := 6) fa_X0_161_5 t_n15 rfl dX0_ends_247 fun r16 t_r16 => ?_
      refine go_join0 (pcx := 266) ([(0, .ref x0), (1, .int x1)]) ([]) ([]) (True) (fun u15 _ => ?_) (fun j4 hj4 => ?_)
      · refine go_iinc (pc := 266) (i := 1) (w := 1) (A' := [(0, .ref x0), (1, .int (x1 + 1))]) rfl (by decide) (by decide) rfl rfl rfl dX0_ends_266 ?_
        refine go_goto (pc := 269) (tgt := 233) dX0_ends_269 (by decide) ?_
        exact go_weak (A' := [(0, .ref x0), (1, .int (x1 + 1))]) (B' := []) ⟨rfl, rfl, trivial⟩ rfl (fun q h => by cases h) (ih (x1 + 1) u15)
      · refine go_ifnull (pc := 250) (tgt := 266) dX0_ends_250 (by decide) (fun e_n16 => ?_) (fun n16 e_n16 => ?_)
        · subst e_n16
          exact go_weak (A' := [(0, .ref x0), (1, .int x1)]) (B' := []) ⟨rfl, rfl, trivial⟩ rfl (fun q h => by cases h) (hj4 u trivial)
        · have t_n16 := t_r16 n16 e_n16
          subst e_n16
          refine go_aload_n (pc := 253) (j := 0) (i := 0) dX0_ends_253 rfl rfl ?_
          refine go_getR (pc := 254) (n := x0) (ci := 0) (k := 1) (t := 18) fa_X0_30_0 t_x0 rfl dX0_ends_254 fun r17 t_r17 => ?_
          refine go_iload_n (pc := 257) (j := 1) (i := 1) dX0_ends_257 rfl rfl ?_
          refine go_oB fun n17 e_n17 => ?_
          have t_n17 := t_r17 n17 e_n17
          subst e_n17
          refine go_aald (pc := 258) (n := n17) (ci := 18) (t := 5) (by decide) (by decide) t_n17 rfl dX0_ends_258 fun r18 t_r18 => ?_
          refine go_oB fun n18 e_n18 => ?_
          have t_n18 := t_r18 n18 e_n18
          subst e_n18
          refine go_getR (pc := 259) (n := n18) (ci := 5) (k := 15) (t := 6) fa_X0_161_5 t_n18 rfl dX0_ends_259 fun r19 t_r19 => ?_
          refine go_iconst (pc := 262) (v := 0) dX0_ends_262 (by decide) ?_
          refine go_oB fun n19 e_n19 => ?_
          have t_n19 := t_r19 n19 e_n19
          subst e_n19
          refine go_putI (pc := 263) (n := n19) (ci := 6) (k := 3) (v := 0) pa_X0_227_6 (fun h => by cases h) t_n19 rfl zKeep_int dX0_ends_263 fun u16 => ?_
          exact go_weak (A' := [(0, .ref x0), (1, .int x1)]) (B' := []) ⟨rfl, rfl, trivial⟩ rfl (fun q h => by cases h) (hj4 u16 trivial)
end
def f_X0_ends_L91 (x0 : Nat) (k146 : zM → Option (Unit × zM)) : Nat → Int32 → zM → Option (Unit × zM)
  | 0, _, _ => none
  | n + 1, x1, u => if (mI u x0 16) ≤ x1 then (k146 u) else (lt (mR u x0 1) fun r20 => oB r20 fun n20 => ix x1 (mN u n20) (lt (mR u n20 (xN x1)) fun r21 => oB r21 fun n21 => lt (fun (u17 : zM) => f_X0_ends_L91 x0 k146 n (x1 + 1) u17) fun j5 => if (mI u n21 4) ≤ 0 then (j5 u) else (lt (mR u x0 1) fun r22 => oB r22 fun n22 => ix x1 (mN u n22) (lt (mR u n22 (xN x1)) fun r23 => oB r23 fun n23 => lt (mR u x0 1) fun r24 => oB r24 fun n24 => ix x1 (mN u n24) (lt (mR u n24 (xN x1)) fun r25 => oB r25 fun n25 => bd (f_X0_asksHouse x0 0 n25 u) fun v6 u18 => lt (sI u18 n23 11 ((mI u n23 11) + (if 0 < v6 then v6 else 0))) fun u19 => j5 u19)))))
section
variable {c0 s0 : Nat} {tbv : List ExceptionTableEntry}
set_option maxHeartbeats 4000000 in
theorem g_X0_ends_L91 (x0 : Nat) (k146 : zM → Option (Unit × zM)) (t_x0 : kd x0 = 0) (hk146 : ∀ (u : zM), Go RX0 cX0_ends 2 (none) false 8 200 [] (obT) (zQ rvV) c0 s0 146 [(0, .ref x0)] [] [] u (k146 u)) : ∀ (n : Nat) (x1 : Int32) (u : zM), Go RX0 cX0_ends 2 (none) false 8 200 [] (obT) (zQ rvV) c0 s0 91 [(0, .ref x0), (1, .int x1)] [] [] u (f_X0_ends_L91 x0 k146 n x1 u) := by
  intro n
  induction n with
  | zero => intros; exact go_none
  | succ n ih =>
    intro x1 u
    unfold f_X0_ends_L91
    refine go_iload_n (pc := 91) (j := 1) (i := 1) dX0_ends_91 rfl rfl ?_
    refine go_aload_n (pc := 92) (j := 0) (i := 0) dX0_ends_92 rfl rfl ?_
    refine go_getI (pc := 93) (n := x0) (ci := 0) (k := 16) fa_X0_120_0 t_x0 rfl dX0_ends_93 ?_
    refine go_icmp_ge (pc := 96) (tgt := 146) dX0_ends_96 (by decide) (fun h7 => ?_) (fun h7 => ?_)
    · exact go_weak (A' := [(0, .ref x0)]) (B' := []) ⟨rfl, trivial⟩ rfl (fun q h => by cases h) (hk146 u)
    · refine go_aload_n (pc := 99) (j := 0) (i := 0) dX0_ends_99 rfl rfl ?_
      refine go_getR (pc := 100) (n := x0) (ci := 0) (k := 1) (t := 18) fa_X0_30_0 t_x0 rfl dX0_ends_100 fun r20 t_r20 => ?_
      refine go_iload_n (pc := 103) (j := 1) (i := 1) dX0_ends_103 rfl rfl ?_
      refine go_oB fun n20 e_n20 => ?_
      have t_n20 := t_r20 n20 e_n20
      subst e_n20
      refine go_aald (pc := 104) (n := n20) (ci := 18) (t := 5) (by decide) (by decide) t_n20 rfl dX0_ends_104 fun r21 t_r21 => ?_
      refine go_oB fun n21 e_n21 => ?_
      have t_n21 := t_r21 n21 e_n21
      subst e_n21
      refine go_getI (pc := 105) (n := n21) (ci := 5) (k := 4) fa_X0_202_5 t_n21 rfl dX0_ends_105 ?_
      refine go_join0 (pcx := 140) ([(0, .ref x0), (1, .int x1)]) ([]) ([]) (True) (fun u17 _ => ?_) (fun j5 hj5 => ?_)
      · refine go_iinc (pc := 140) (i := 1) (w := 1) (A' := [(0, .ref x0), (1, .int (x1 + 1))]) rfl (by decide) (by decide) rfl rfl rfl dX0_ends_140 ?_
        refine go_goto (pc := 143) (tgt := 91) dX0_ends_143 (by decide) ?_
        exact go_weak (A' := [(0, .ref x0), (1, .int (x1 + 1))]) (B' := []) ⟨rfl, rfl, trivial⟩ rfl (fun q h => by cases h) (ih (x1 + 1) u17)
      · refine go_if_le (pc := 108) (tgt := 140) dX0_ends_108 (by decide) (fun h8 => ?_) (fun h8 => ?_)
        · exact go_weak (A' := [(0, .ref x0), (1, .int x1)]) (B' := []) ⟨rfl, rfl, trivial⟩ rfl (fun q h => by cases h) (hj5 u trivial)
        · refine go_aload_n (pc := 111) (j := 0) (i := 0) dX0_ends_111 rfl rfl ?_
          refine go_getR (pc := 112) (n := x0) (ci := 0) (k := 1) (t := 18) fa_X0_30_0 t_x0 rfl dX0_ends_112 fun r22 t_r22 => ?_
          refine go_iload_n (pc := 115) (j := 1) (i := 1) dX0_ends_115 rfl rfl ?_
          refine go_oB fun n22 e_n22 => ?_
          have t_n22 := t_r22 n22 e_n22
          subst e_n22
          refine go_aald (pc := 116) (n := n22) (ci := 18) (t := 5) (by decide) (by decide) t_n22 rfl dX0_ends_116 fun r23 t_r23 => ?_
          refine go_oB fun n23 e_n23 => ?_
          have t_n23 := t_r23 n23 e_n23
          subst e_n23
          refine go_dupA (pc := 117) dX0_ends_117 ?_
          refine go_getI (pc := 118) (n := n23) (ci := 5) (k := 11) fa_X0_205_5 t_n23 rfl dX0_ends_118 ?_
          refine go_iconst (pc := 121) (v := 0) dX0_ends_121 (by decide) ?_
          refine go_aload_n (pc := 122) (j := 0) (i := 0) dX0_ends_122 rfl rfl ?_
          refine go_iconst (pc := 123) (v := 0) dX0_ends_123 (by decide) ?_
          refine go_aload_n (pc := 124) (j := 0) (i := 0) dX0_ends_124 rfl rfl ?_
          refine go_getR (pc := 125) (n := x0) (ci := 0) (k := 1) (t := 18) fa_X0_30_0 t_x0 rfl dX0_ends_125 fun r24 t_r24 => ?_
          refine go_iload_n (pc := 128) (j := 1) (i := 1) dX0_ends_128 rfl rfl ?_
          refine go_oB fun n24 e_n24 => ?_
          have t_n24 := t_r24 n24 e_n24
          subst e_n24
          refine go_aald (pc := 129) (n := n24) (ci := 18) (t := 5) (by decide) (by decide) t_n24 rfl dX0_ends_129 fun r25 t_r25 => ?_
          refine go_oB fun n25 e_n25 => ?_
          have t_n25 := t_r25 n25 e_n25
          subst e_n25
          refine go_callVI (pc := 130) (ci := 0) (ct_X0_asksHouse x0 0 n25 t_x0 t_n25) lk_X0_208 rfl rfl rfl (by decide) t_x0 ⟨by decide, by decide⟩ (Nat.le_of_ble_eq_true rfl) dX0_ends_130 rfl fun v6 u18 => ?_
          refine go_mmaxI (pc := 133) dX0_ends_133 q672 q584 q102 q585 (by decide) (Nat.le_of_ble_eq_true rfl) ?_
          refine go_iadd (pc := 136) dX0_ends_136 ?_
          refine go_putI (pc := 137) (n := n23) (ci := 5) (k := 11) (v := ((mI u n23 11) + (if 0 < v6 then v6 else 0))) pa_X0_205_5 (fun h => by cases h) t_n23 rfl zKeep_int dX0_ends_137 fun u19 => ?_
          exact go_weak (A' := [(0, .ref x0), (1, .int x1)]) (B' := []) ⟨rfl, rfl, trivial⟩ rfl (fun q h => by cases h) (hj5 u19 trivial)
end
def f_X0_ends_L148 (x0 : Nat) (k171 : zM → Option (Unit × zM)) : Nat → Int32 → zM → Option (Unit × zM)
  | 0, _, _ => none
  | n + 1, x1, u => if (mI u x0 15) ≤ x1 then (k171 u) else (lt (mR u x0 0) fun r26 => oB r26 fun n26 => ix x1 (mN u n26) (lt (mR u n26 (xN x1)) fun r27 => oB r27 fun n27 => bd (f_X4_answers n27 u) fun v7 u21 => f_X0_ends_L148 x0 k171 n (x1 + 1) u21))
section
variable {c0 s0 : Nat} {tbv : List ExceptionTableEntry}
set_option maxHeartbeats 4000000 in
theorem g_X0_ends_L148 (x0 : Nat) (k171 : zM → Option (Unit × zM)) (t_x0 : kd x0 = 0) (hk171 : ∀ (u : zM), Go RX0 cX0_ends 2 (none) false 8 200 [] (obT) (zQ rvV) c0 s0 171 [(0, .ref x0)] [] [] u (k171 u)) : ∀ (n : Nat) (x1 : Int32) (u : zM), Go RX0 cX0_ends 2 (none) false 8 200 [] (obT) (zQ rvV) c0 s0 148 [(0, .ref x0), (1, .int x1)] [] [] u (f_X0_ends_L148 x0 k171 n x1 u) := by
  intro n
  induction n with
  | zero => intros; exact go_none
  | succ n ih =>
    intro x1 u
    unfold f_X0_ends_L148
    refine go_iload_n (pc := 148) (j := 1) (i := 1) dX0_ends_148 rfl rfl ?_
    refine go_aload_n (pc := 149) (j := 0) (i := 0) dX0_ends_149 rfl rfl ?_
    refine go_getI (pc := 150) (n := x0) (ci := 0) (k := 15) fa_X0_112_0 t_x0 rfl dX0_ends_150 ?_
    refine go_icmp_ge (pc := 153) (tgt := 171) dX0_ends_153 (by decide) (fun h9 => ?_) (fun h9 => ?_)
    · exact go_weak (A' := [(0, .ref x0)]) (B' := []) ⟨rfl, trivial⟩ rfl (fun q h => by cases h) (hk171 u)
    · refine go_aload_n (pc := 156) (j := 0) (i := 0) dX0_ends_156 rfl rfl ?_
      refine go_getR (pc := 157) (n := x0) (ci := 0) (k := 0) (t := 17) fa_X0_24_0 t_x0 rfl dX0_ends_157 fun r26 t_r26 => ?_
      refine go_iload_n (pc := 160) (j := 1) (i := 1) dX0_ends_160 rfl rfl ?_
      refine go_oB fun n26 e_n26 => ?_
      have t_n26 := t_r26 n26 e_n26
      subst e_n26
      refine go_aald (pc := 161) (n := n26) (ci := 17) (t := 4) (by decide) (by decide) t_n26 rfl dX0_ends_161 fun r27 t_r27 => ?_
      refine go_oB fun n27 e_n27 => ?_
      have t_n27 := t_r27 n27 e_n27
      subst e_n27
      refine go_callVV (pc := 162) (ci := 4) (ct_X4_answers n27 t_n27) lk_X0_215 rfl rfl rfl (by decide) t_n27 ⟨by decide, by decide⟩ (Nat.le_of_ble_eq_true rfl) dX0_ends_162 rfl fun v7 u21 => ?_
      refine go_iinc (pc := 165) (i := 1) (w := 1) (A' := [(0, .ref x0), (1, .int (x1 + 1))]) rfl (by decide) (by decide) rfl rfl rfl dX0_ends_165 ?_
      refine go_goto (pc := 168) (tgt := 148) dX0_ends_168 (by decide) ?_
      exact go_weak (A' := [(0, .ref x0), (1, .int (x1 + 1))]) (B' := []) ⟨rfl, rfl, trivial⟩ rfl (fun q h => by cases h) (ih (x1 + 1) u21)
end
def f_X0_ends (self : Nat) (u : zM) : Option (Unit × zM) := lt (sI u self 26 0) fun u1 => f_X0_ends_L7 self (fun u3 => f_X0_ends_L33 self (fun u7 => bd (f_X0_words self u7) fun v4 u8 => lt (fun (u9 : zM) => bd (f_X0_tells self u9) fun v5 u10 => lt (sI u10 self 14 ((mI u10 self 14) + 1)) fun u11 => f_X0_ends_L187 self (fun u14 => f_X0_ends_L233 self zFu 0 u14) zFu 0 u11) fun j2 => if ((mI u8 self 14) - (mI u8 self 14) / 13 * 13) = 12 then (f_X0_ends_L91 self (fun u20 => f_X0_ends_L148 self (fun u22 => j2 u22) zFu 0 u20) zFu 0 u8) else (j2 u8)) zFu 0 u3) zFu 0 u1
set_option maxHeartbeats 4000000 in
theorem ct_X0_ends (self : Nat) (t_self : kd self = 0) : zMet yX0_ends cX0_ends 2 (none) 8 200 rvV (obT) [.ref self] (f_X0_ends self) := by
  refine zMet_of (A := [(0, .ref self)]) (B := []) (ini := false) RX0 rfl (by decide +kernel) (fun h => by cases h) (by simp [lg_sl, Value.category]) (by simp [lv_args, Value.category]) rfl (by simp [lv_args, Value.category]) fun u => ?_
  unfold f_X0_ends
  refine go_aload_n (pc := 0) (j := 0) (i := 0) dX0_ends_0 rfl rfl ?_
  refine go_iconst (pc := 1) (v := 0) dX0_ends_1 (by decide) ?_
  refine go_putI (pc := 2) (n := self) (ci := 0) (k := 26) (v := 0) pa_X0_186_0 (fun h => by cases h) t_self rfl zKeep_int dX0_ends_2 fun u1 => ?_
  refine go_iconst (pc := 5) (v := 0) dX0_ends_5 (by decide) ?_
  refine go_istore_n (pc := 6) (j := 1) (i := 1) (A' := [(0, .ref self), (1, .int 0)]) rfl (by decide) rfl rfl rfl dX0_ends_6 ?_
  refine go_weak (A' := [(0, .ref self), (1, .int 0)]) (B' := []) ⟨rfl, rfl, trivial⟩ rfl (fun q h => by cases h) (g_X0_ends_L7 self _ t_self ?_ zFu 0 u1)
  · intro u3
    refine go_iconst (pc := 31) (v := 0) dX0_ends_31 (by decide) ?_
    refine go_istore_n (pc := 32) (j := 1) (i := 1) (A' := [(0, .ref self), (1, .int 0)]) rfl (by decide) rfl rfl rfl dX0_ends_32 ?_
    refine go_weak (A' := [(0, .ref self), (1, .int 0)]) (B' := []) ⟨rfl, rfl, trivial⟩ rfl (fun q h => by cases h) (g_X0_ends_L33 self _ t_self ?_ zFu 0 u3)
    · intro u7
      refine go_aload_n (pc := 73) (j := 0) (i := 0) dX0_ends_73 rfl rfl ?_
      refine go_callVV (pc := 74) (ci := 0) (ct_X0_words self t_self) lk_X0_199 rfl rfl rfl (by decide) t_self ⟨by decide, by decide⟩ (Nat.le_of_ble_eq_true rfl) dX0_ends_74 rfl fun v4 u8 => ?_
      refine go_aload_n (pc := 77) (j := 0) (i := 0) dX0_ends_77 rfl rfl ?_
      refine go_getI (pc := 78) (n := self) (ci := 0) (k := 14) fa_X0_151_0 t_self rfl dX0_ends_78 ?_
      refine go_bipush (pc := 81) (v := 13) dX0_ends_81 (by decide) ?_
      refine go_irem (pc := 83) dX0_ends_83 (by decide) ?_
      refine go_bipush (pc := 84) (v := 12) dX0_ends_84 (by decide) ?_
      refine go_join0 (pcx := 171) ([(0, .ref self)]) ([]) ([]) (True) (fun u9 _ => ?_) (fun j2 hj2 => ?_)
      · refine go_aload_n (pc := 171) (j := 0) (i := 0) dX0_ends_171 rfl rfl ?_
        refine go_callVV (pc := 172) (ci := 0) (ct_X0_tells self t_self) lk_X0_218 rfl rfl rfl (by decide) t_self ⟨by decide, by decide⟩ (Nat.le_of_ble_eq_true rfl) dX0_ends_172 rfl fun v5 u10 => ?_
        refine go_aload_n (pc := 175) (j := 0) (i := 0) dX0_ends_175 rfl rfl ?_
        refine go_dupA (pc := 176) dX0_ends_176 ?_
        refine go_getI (pc := 177) (n := self) (ci := 0) (k := 14) fa_X0_151_0 t_self rfl dX0_ends_177 ?_
        refine go_iconst (pc := 180) (v := 1) dX0_ends_180 (by decide) ?_
        refine go_iadd (pc := 181) dX0_ends_181 ?_
        refine go_putI (pc := 182) (n := self) (ci := 0) (k := 14) (v := ((mI u10 self 14) + 1)) pa_X0_151_0 (fun h => by cases h) t_self rfl zKeep_int dX0_ends_182 fun u11 => ?_
        refine go_iconst (pc := 185) (v := 0) dX0_ends_185 (by decide) ?_
        refine go_istore_n (pc := 186) (j := 1) (i := 1) (A' := [(0, .ref self), (1, .int 0)]) rfl (by decide) rfl rfl rfl dX0_ends_186 ?_
        refine go_weak (A' := [(0, .ref self), (1, .int 0)]) (B' := []) ⟨rfl, rfl, trivial⟩ rfl (fun q h => by cases h) (g_X0_ends_L187 self _ t_self ?_ zFu 0 u11)
        · intro u14
          refine go_iconst (pc := 231) (v := 0) dX0_ends_231 (by decide) ?_
          refine go_istore_n (pc := 232) (j := 1) (i := 1) (A' := [(0, .ref self), (1, .int 0)]) rfl (by decide) rfl rfl rfl dX0_ends_232 ?_
          exact go_weak (A' := [(0, .ref self), (1, .int 0)]) (B' := []) ⟨rfl, rfl, trivial⟩ rfl (fun q h => by cases h) (g_X0_ends_L233 self t_self zFu 0 u14)
      · refine go_icmp_ne (pc := 86) (tgt := 171) dX0_ends_86 (by decide) (fun h6 => ?_) (fun h6 => ?_)
        · refine go_iconst (pc := 89) (v := 0) dX0_ends_89 (by decide) ?_
          refine go_istore_n (pc := 90) (j := 1) (i := 1) (A' := [(0, .ref self), (1, .int 0)]) rfl (by decide) rfl rfl rfl dX0_ends_90 ?_
          refine go_weak (A' := [(0, .ref self), (1, .int 0)]) (B' := []) ⟨rfl, rfl, trivial⟩ rfl (fun q h => by cases h) (g_X0_ends_L91 self _ t_self ?_ zFu 0 u8)
          · intro u20
            refine go_iconst (pc := 146) (v := 0) dX0_ends_146 (by decide) ?_
            refine go_istore_n (pc := 147) (j := 1) (i := 1) (A' := [(0, .ref self), (1, .int 0)]) rfl (by decide) rfl rfl rfl dX0_ends_147 ?_
            refine go_weak (A' := [(0, .ref self), (1, .int 0)]) (B' := []) ⟨rfl, rfl, trivial⟩ rfl (fun q h => by cases h) (g_X0_ends_L148 self _ t_self ?_ zFu 0 u20)
            · intro u22
              exact go_weak (A' := [(0, .ref self)]) (B' := []) ⟨rfl, trivial⟩ rfl (fun q h => by cases h) (hj2 u22 trivial)
        · exact go_weak (A' := [(0, .ref self)]) (B' := []) ⟨rfl, trivial⟩ rfl (fun q h => by cases h) (hj2 u8 trivial)

def f_X0_go_L14 (x0 : Nat) (x1 : Int32) : Nat → Int32 → zM → Option (Int32 × zM)
  | 0, _, _ => none
  | n + 1, x2, u => if x1 ≤ x2 then (some ((mI u x0 14), u)) else (if 156 ≤ (mI u x0 14) then (some ((mI u x0 14), u)) else (bd (f_X0_ends x0 u) fun v2 u2 => f_X0_go_L14 x0 x1 n (x2 + 1) u2))
section
variable {c0 s0 : Nat} {tbv : List ExceptionTableEntry}
set_option maxHeartbeats 4000000 in
theorem g_X0_go_L14 (x0 : Nat) (x1 : Int32) (t_x0 : kd x0 = 0) : ∀ (n : Nat) (x2 : Int32) (u : zM), Go RX0 cX0_go 3 (some .int) false 9 221 [] (obT) (zQ rvI) c0 s0 14 [(0, .ref x0), (1, .int x1), (2, .int x2)] [] [] u (f_X0_go_L14 x0 x1 n x2 u) := by
  intro n
  induction n with
  | zero => intros; exact go_none
  | succ n ih =>
    intro x2 u
    unfold f_X0_go_L14
    refine go_iload_n (pc := 14) (j := 2) (i := 2) dX0_go_14 rfl rfl ?_
    refine go_iload_n (pc := 15) (j := 1) (i := 1) dX0_go_15 rfl rfl ?_
    refine go_icmp_ge (pc := 16) (tgt := 39) dX0_go_16 (by decide) (fun h2 => ?_) (fun h2 => ?_)
    · refine go_aload_n (pc := 39) (j := 0) (i := 0) dX0_go_39 rfl rfl ?_
      refine go_getI (pc := 40) (n := x0) (ci := 0) (k := 14) fa_X0_151_0 t_x0 rfl dX0_go_40 ?_
      exact go_ireturn (pc := 43) rfl dX0_go_43
    · refine go_aload_n (pc := 19) (j := 0) (i := 0) dX0_go_19 rfl rfl ?_
      refine go_getI (pc := 20) (n := x0) (ci := 0) (k := 14) fa_X0_151_0 t_x0 rfl dX0_go_20 ?_
      refine go_sipush (pc := 23) (v := 156) dX0_go_23 (by decide) ?_
      refine go_icmp_ge (pc := 26) (tgt := 39) dX0_go_26 (by decide) (fun h3 => ?_) (fun h3 => ?_)
      · refine go_aload_n (pc := 39) (j := 0) (i := 0) dX0_go_39 rfl rfl ?_
        refine go_getI (pc := 40) (n := x0) (ci := 0) (k := 14) fa_X0_151_0 t_x0 rfl dX0_go_40 ?_
        exact go_ireturn (pc := 43) rfl dX0_go_43
      · refine go_aload_n (pc := 29) (j := 0) (i := 0) dX0_go_29 rfl rfl ?_
        refine go_callVV (pc := 30) (ci := 0) (ct_X0_ends x0 t_x0) lk_X0_183 rfl rfl rfl (by decide) t_x0 ⟨by decide, by decide⟩ (Nat.le_of_ble_eq_true rfl) dX0_go_30 rfl fun v2 u2 => ?_
        refine go_iinc (pc := 33) (i := 2) (w := 1) (A' := [(0, .ref x0), (1, .int x1), (2, .int (x2 + 1))]) rfl (by decide) (by decide) rfl rfl rfl dX0_go_33 ?_
        refine go_goto (pc := 36) (tgt := 14) dX0_go_36 (by decide) ?_
        exact go_weak (A' := [(0, .ref x0), (1, .int x1), (2, .int (x2 + 1))]) (B' := []) ⟨rfl, rfl, rfl, trivial⟩ rfl (fun q h => by cases h) (ih (x2 + 1) u2)
end
def f_X0_go (self : Nat) (p0 : Int32) (u : zM) : Option (Int32 × zM) := bd (f_X0_in p0 0 26 u) fun v1 u1 => if v1 = 0 then (some ((-1), u1)) else (f_X0_go_L14 self p0 zFu 0 u1)
set_option maxHeartbeats 4000000 in
theorem ct_X0_go (self : Nat) (p0 : Int32) (t_self : kd self = 0) : zMet yX0_go cX0_go 3 (some .int) 9 221 rvI (obT) [.ref self, .int p0] (f_X0_go self p0) := by
  refine zMet_of (A := [(0, .ref self), (1, .int p0)]) (B := []) (ini := false) RX0 rfl (by decide +kernel) (fun h => by cases h) (by simp [lg_sl, Value.category]) (by simp [lv_args, Value.category]) rfl (by simp [lv_args, Value.category]) fun u => ?_
  unfold f_X0_go
  refine go_iload_n (pc := 0) (j := 1) (i := 1) dX0_go_0 rfl rfl ?_
  refine go_iconst (pc := 1) (v := 0) dX0_go_1 (by decide) ?_
  refine go_bipush (pc := 2) (v := 26) dX0_go_2 (by decide) ?_
  refine go_callSI (pc := 4) (ct_X0_in p0 0 26) lk_X0_116 rfl ⟨by decide, by decide⟩ (Nat.le_of_ble_eq_true rfl) dX0_go_4 rfl fun v1 u1 => ?_
  refine go_if_ne (pc := 7) (tgt := 12) dX0_go_7 (by decide) (fun h1 => ?_) (fun h1 => ?_)
  · refine go_iconst (pc := 10) (v := (-1)) dX0_go_10 (by decide) ?_
    exact go_ireturn (pc := 11) rfl dX0_go_11
  · refine go_iconst (pc := 12) (v := 0) dX0_go_12 (by decide) ?_
    refine go_istore_n (pc := 13) (j := 2) (i := 2) (A' := [(0, .ref self), (1, .int p0), (2, .int 0)]) rfl (by decide) rfl rfl rfl dX0_go_13 ?_
    exact go_weak (A' := [(0, .ref self), (1, .int p0), (2, .int 0)]) (B' := []) ⟨rfl, rfl, rfl, trivial⟩ rfl (fun q h => by cases h) (g_X0_go_L14 self p0 t_self zFu 0 u1)

def f_X0_findLot (self : Nat) (p0 : Int32) (u : zM) : Option (Option Nat × zM) := bd (f_X0_in p0 0 ((mI u self 17) - 1) u) fun v1 u1 => if v1 = 0 then (some (none, u1)) else (lt (mR u1 self 2) fun r1 => oB r1 fun n1 => ix p0 (mN u1 n1) (lt (mR u1 n1 (xN p0)) fun r2 => some (r2, u1)))
set_option maxHeartbeats 4000000 in
theorem ct_X0_findLot (self : Nat) (p0 : Int32) (t_self : kd self = 0) : zMet yX0_findLot cX0_findLot 2 (some (.object "WheelLand$Lot")) 2 22 rvR (obR 8) [.ref self, .int p0] (f_X0_findLot self p0) := by
  refine zMet_of (A := [(0, .ref self), (1, .int p0)]) (B := []) (ini := false) RX0 rfl (by decide +kernel) (fun h => by cases h) (by simp [lg_sl, Value.category]) (by simp [lv_args, Value.category]) rfl (by simp [lv_args, Value.category]) fun u => ?_
  unfold f_X0_findLot
  refine go_iload_n (pc := 0) (j := 1) (i := 1) dX0_findLot_0 rfl rfl ?_
  refine go_iconst (pc := 1) (v := 0) dX0_findLot_1 (by decide) ?_
  refine go_aload_n (pc := 2) (j := 0) (i := 0) dX0_findLot_2 rfl rfl ?_
  refine go_getI (pc := 3) (n := self) (ci := 0) (k := 17) fa_X0_123_0 t_self rfl dX0_findLot_3 ?_
  refine go_iconst (pc := 6) (v := 1) dX0_findLot_6 (by decide) ?_
  refine go_isub (pc := 7) dX0_findLot_7 ?_
  refine go_callSI (pc := 8) (ct_X0_in p0 0 ((mI u self 17) - 1)) lk_X0_116 rfl ⟨by decide, by decide⟩ (Nat.le_of_ble_eq_true rfl) dX0_findLot_8 rfl fun v1 u1 => ?_
  refine go_if_eq (pc := 11) (tgt := 23) dX0_findLot_11 (by decide) (fun h1 => ?_) (fun h1 => ?_)
  · refine go_null (pc := 23) dX0_findLot_23 ?_
    exact go_areturnQ (pc := 24) (r := none) rfl (Or.inl ⟨_, rfl⟩) (fun n h => by cases h) dX0_findLot_24
  · refine go_aload_n (pc := 14) (j := 0) (i := 0) dX0_findLot_14 rfl rfl ?_
    refine go_getR (pc := 15) (n := self) (ci := 0) (k := 2) (t := 19) fa_X0_36_0 t_self rfl dX0_findLot_15 fun r1 t_r1 => ?_
    refine go_iload_n (pc := 18) (j := 1) (i := 1) dX0_findLot_18 rfl rfl ?_
    refine go_oB fun n1 e_n1 => ?_
    have t_n1 := t_r1 n1 e_n1
    subst e_n1
    refine go_aald (pc := 19) (n := n1) (ci := 19) (t := 8) (by decide) (by decide) t_n1 rfl dX0_findLot_19 fun r2 t_r2 => ?_
    refine go_goto (pc := 20) (tgt := 24) dX0_findLot_20 (by decide) ?_
    exact go_areturnQ (pc := 24) (r := r2) rfl (Or.inl ⟨_, rfl⟩) t_r2 dX0_findLot_24

def f_X0_lot (self : Nat) (p0 : Int32) (p1 : Int32) (u : zM) : Option (Int32 × zM) := bd (f_X0_findLot self p0 u) fun v1 u1 => oC v1 (some ((-1), u1)) fun n1 => if p1 = 0 then (lt (mR u1 n1 0) fun r1 => oB r1 fun n2 => some ((mI u1 n2 0), u1)) else (if p1 = 1 then (some ((mI u1 n1 1), u1)) else (if p1 = 2 then (some ((mI u1 n1 3), u1)) else (if p1 = 3 then (some ((mI u1 n1 4), u1)) else (if p1 = 4 then (some ((mI u1 n1 5), u1)) else (if p1 = 5 then (some ((mI u1 n1 6), u1)) else (some ((-1), u1)))))))
set_option maxHeartbeats 4000000 in
theorem ct_X0_lot (self : Nat) (p0 : Int32) (p1 : Int32) (t_self : kd self = 0) : zMet yX0_lot cX0_lot 4 (some .int) 3 43 rvI (obT) [.ref self, .int p0, .int p1] (f_X0_lot self p0 p1) := by
  refine zMet_of (A := [(0, .ref self), (1, .int p0), (2, .int p1)]) (B := []) (ini := false) RX0 rfl (by decide +kernel) (fun h => by cases h) (by simp [lg_sl, Value.category]) (by simp [lv_args, Value.category]) rfl (by simp [lv_args, Value.category]) fun u => ?_
  unfold f_X0_lot
  refine go_aload_n (pc := 0) (j := 0) (i := 0) dX0_lot_0 rfl rfl ?_
  refine go_iload_n (pc := 1) (j := 1) (i := 1) dX0_lot_1 rfl rfl ?_
  refine go_callVR (pc := 2) (ci := 0) (ct_X0_findLot self p0 t_self) lk_X0_317 rfl rfl rfl (by decide) t_self ⟨by decide, by decide⟩ (Nat.le_of_ble_eq_true rfl) dX0_lot_2 rfl fun v1 u1 t_v1 => ?_
  refine go_astore_nQ (pc := 5) (j := 3) (r := v1) (i := 3) (A' := [(0, .ref self), (1, .int p0), (2, .int p1), (3, va_rf v1)]) rfl (by decide) rfl rfl rfl dX0_lot_5 ?_
  refine go_aload_nQ (pc := 6) (j := 3) (r := v1) (i := 3) dX0_lot_6 rfl rfl ?_
  refine go_ifnonnull (pc := 7) (tgt := 12) dX0_lot_7 (by decide) (fun e_n1 => ?_) (fun n1 e_n1 => ?_)
  · subst e_n1
    refine go_iconst (pc := 10) (v := (-1)) dX0_lot_10 (by decide) ?_
    exact go_ireturn (pc := 11) rfl dX0_lot_11
  · have t_n1 := t_v1 n1 e_n1
    subst e_n1
    refine go_iload_n (pc := 12) (j := 2) (i := 2) dX0_lot_12 rfl rfl ?_
    refine go_if (fun h1 => ?_) (fun h1 => ?_)
    · refine go_tableIn (pc := 13) (tgt := 52) 0 h1 dX0_lot_13 (by decide) (by decide) rfl (by decide) ?_
      refine go_aload_n (pc := 52) (j := 3) (i := 3) dX0_lot_52 rfl rfl ?_
      refine go_getR (pc := 53) (n := n1) (ci := 8) (k := 0) (t := 5) fa_X0_321_8 t_n1 rfl dX0_lot_53 fun r1 t_r1 => ?_
      refine go_oB fun n2 e_n2 => ?_
      have t_n2 := t_r1 n2 e_n2
      subst e_n2
      refine go_getI (pc := 56) (n := n2) (ci := 5) (k := 0) fa_X0_325_5 t_n2 rfl dX0_lot_56 ?_
      exact go_ireturn (pc := 59) rfl dX0_lot_59
    refine go_if (fun h2 => ?_) (fun h2 => ?_)
    · refine go_tableIn (pc := 13) (tgt := 60) 1 h2 dX0_lot_13 (by decide) (by decide) rfl (by decide) ?_
      refine go_aload_n (pc := 60) (j := 3) (i := 3) dX0_lot_60 rfl rfl ?_
      refine go_getI (pc := 61) (n := n1) (ci := 8) (k := 1) fa_X0_326_8 t_n1 rfl dX0_lot_61 ?_
      exact go_ireturn (pc := 64) rfl dX0_lot_64
    refine go_if (fun h3 => ?_) (fun h3 => ?_)
    · refine go_tableIn (pc := 13) (tgt := 65) 2 h3 dX0_lot_13 (by decide) (by decide) rfl (by decide) ?_
      refine go_aload_n (pc := 65) (j := 3) (i := 3) dX0_lot_65 rfl rfl ?_
      refine go_getI (pc := 66) (n := n1) (ci := 8) (k := 3) fa_X0_329_8 t_n1 rfl dX0_lot_66 ?_
      exact go_ireturn (pc := 69) rfl dX0_lot_69
    refine go_if (fun h4 => ?_) (fun h4 => ?_)
    · refine go_tableIn (pc := 13) (tgt := 70) 3 h4 dX0_lot_13 (by decide) (by decide) rfl (by decide) ?_
      refine go_aload_n (pc := 70) (j := 3) (i := 3) dX0_lot_70 rfl rfl ?_
      refine go_getI (pc := 71) (n := n1) (ci := 8) (k := 4) fa_X0_332_8 t_n1 rfl dX0_lot_71 ?_
      exact go_ireturn (pc := 74) rfl dX0_lot_74
    refine go_if (fun h5 => ?_) (fun h5 => ?_)
    · refine go_tableIn (pc := 13) (tgt := 75) 4 h5 dX0_lot_13 (by decide) (by decide) rfl (by decide) ?_
      refine go_aload_n (pc := 75) (j := 3) (i := 3) dX0_lot_75 rfl rfl ?_
      refine go_getI (pc := 76) (n := n1) (ci := 8) (k := 5) fa_X0_335_8 t_n1 rfl dX0_lot_76 ?_
      exact go_ireturn (pc := 79) rfl dX0_lot_79
    refine go_if (fun h6 => ?_) (fun h6 => ?_)
    · refine go_tableIn (pc := 13) (tgt := 80) 5 h6 dX0_lot_13 (by decide) (by decide) rfl (by decide) ?_
      refine go_aload_n (pc := 80) (j := 3) (i := 3) dX0_lot_80 rfl rfl ?_
      refine go_getI (pc := 81) (n := n1) (ci := 8) (k := 6) fa_X0_308_8 t_n1 rfl dX0_lot_81 ?_
      exact go_ireturn (pc := 84) rfl dX0_lot_84
    refine go_tableD (pc := 13) (x := p1) (tgt := 85) dX0_lot_13 (by decide) (fun a b => ?_) ?_
    · rcases (show Int32.toInt p1 = 0 ∨ Int32.toInt p1 = 1 ∨ Int32.toInt p1 = 2 ∨ Int32.toInt p1 = 3 ∨ Int32.toInt p1 = 4 ∨ Int32.toInt p1 = 5 by omega) with e | e | e | e | e | e
      · exact absurd (sw_eq (v := 0) (e.trans (by decide))) h1
      · exact absurd (sw_eq (v := 1) (e.trans (by decide))) h2
      · exact absurd (sw_eq (v := 2) (e.trans (by decide))) h3
      · exact absurd (sw_eq (v := 3) (e.trans (by decide))) h4
      · exact absurd (sw_eq (v := 4) (e.trans (by decide))) h5
      · exact absurd (sw_eq (v := 5) (e.trans (by decide))) h6
    · refine go_iconst (pc := 85) (v := (-1)) dX0_lot_85 (by decide) ?_
      exact go_ireturn (pc := 86) rfl dX0_lot_86

def f_X0_feeds_L3 (x0 : Nat) (x1 : Int32) : Nat → Int32 → zM → Option (Unit × zM)
  | 0, _, _ => none
  | n + 1, x2, u => if x2 < 0 then (some ((), u)) else (lt (mR u x0 12) fun r1 => oB r1 fun n1 => ix (mI u x0 21) (mN u n1) (lt (sI u n1 (xN (mI u x0 21)) (Int32.toInt8 ((Int32.toInt8 (x1 >>> (x2 &&& 31))).toInt32)).toInt32) fun u1 => lt (sI u1 x0 21 ((mI u1 x0 21) + 1)) fun u2 => f_X0_feeds_L3 x0 x1 n (x2 + (-8)) u2))
section
variable {c0 s0 : Nat} {tbv : List ExceptionTableEntry}
set_option maxHeartbeats 4000000 in
theorem g_X0_feeds_L3 (x0 : Nat) (x1 : Int32) (t_x0 : kd x0 = 0) : ∀ (n : Nat) (x2 : Int32) (u : zM), Go RX0 cX0_feeds 3 (none) false 1 0 [] (obT) (zQ rvV) c0 s0 3 [(0, .ref x0), (1, .int x1), (2, .int x2)] [] [] u (f_X0_feeds_L3 x0 x1 n x2 u) := by
  intro n
  induction n with
  | zero => intros; exact go_none
  | succ n ih =>
    intro x2 u
    unfold f_X0_feeds_L3
    refine go_iload_n (pc := 3) (j := 2) (i := 2) dX0_feeds_3 rfl rfl ?_
    refine go_if_lt (pc := 4) (tgt := 36) dX0_feeds_4 (by decide) (fun h1 => ?_) (fun h1 => ?_)
    · exact go_vreturn (pc := 36) rfl dX0_feeds_36
    · refine go_aload_n (pc := 7) (j := 0) (i := 0) dX0_feeds_7 rfl rfl ?_
      refine go_getR (pc := 8) (n := x0) (ci := 0) (k := 12) (t := 14) fa_X0_74_0 t_x0 rfl dX0_feeds_8 fun r1 t_r1 => ?_
      refine go_aload_n (pc := 11) (j := 0) (i := 0) dX0_feeds_11 rfl rfl ?_
      refine go_getI (pc := 12) (n := x0) (ci := 0) (k := 21) fa_X0_338_0 t_x0 rfl dX0_feeds_12 ?_
      refine go_iload_n (pc := 15) (j := 1) (i := 1) dX0_feeds_15 rfl rfl ?_
      refine go_iload_n (pc := 16) (j := 2) (i := 2) dX0_feeds_16 rfl rfl ?_
      refine go_ishr (pc := 17) dX0_feeds_17 ?_
      refine go_i2b (pc := 18) dX0_feeds_18 ?_
      refine go_oB fun n1 e_n1 => ?_
      have t_n1 := t_r1 n1 e_n1
      subst e_n1
      refine go_bast (pc := 19) t_n1 dX0_feeds_19 fun u1 => ?_
      refine go_aload_n (pc := 20) (j := 0) (i := 0) dX0_feeds_20 rfl rfl ?_
      refine go_dupA (pc := 21) dX0_feeds_21 ?_
      refine go_getI (pc := 22) (n := x0) (ci := 0) (k := 21) fa_X0_338_0 t_x0 rfl dX0_feeds_22 ?_
      refine go_iconst (pc := 25) (v := 1) dX0_feeds_25 (by decide) ?_
      refine go_iadd (pc := 26) dX0_feeds_26 ?_
      refine go_putI (pc := 27) (n := x0) (ci := 0) (k := 21) (v := ((mI u1 x0 21) + 1)) pa_X0_338_0 (fun h => by cases h) t_x0 rfl zKeep_int dX0_feeds_27 fun u2 => ?_
      refine go_iinc (pc := 30) (i := 2) (w := (-8)) (A' := [(0, .ref x0), (1, .int x1), (2, .int (x2 + (-8)))]) rfl (by decide) (by decide) rfl rfl rfl dX0_feeds_30 ?_
      refine go_goto (pc := 33) (tgt := 3) dX0_feeds_33 (by decide) ?_
      exact go_weak (A' := [(0, .ref x0), (1, .int x1), (2, .int (x2 + (-8)))]) (B' := []) ⟨rfl, rfl, rfl, trivial⟩ rfl (fun q h => by cases h) (ih (x2 + (-8)) u2)
end
def f_X0_feeds (self : Nat) (p0 : Int32) (u : zM) : Option (Unit × zM) := f_X0_feeds_L3 self p0 zFu 24 u
set_option maxHeartbeats 4000000 in
theorem ct_X0_feeds (self : Nat) (p0 : Int32) (t_self : kd self = 0) : zMet yX0_feeds cX0_feeds 3 (none) 1 0 rvV (obT) [.ref self, .int p0] (f_X0_feeds self p0) := by
  refine zMet_of (A := [(0, .ref self), (1, .int p0)]) (B := []) (ini := false) RX0 rfl (by decide +kernel) (fun h => by cases h) (by simp [lg_sl, Value.category]) (by simp [lv_args, Value.category]) rfl (by simp [lv_args, Value.category]) fun u => ?_
  unfold f_X0_feeds
  refine go_bipush (pc := 0) (v := 24) dX0_feeds_0 (by decide) ?_
  refine go_istore_n (pc := 2) (j := 2) (i := 2) (A' := [(0, .ref self), (1, .int p0), (2, .int 24)]) rfl (by decide) rfl rfl rfl dX0_feeds_2 ?_
  exact go_weak (A' := [(0, .ref self), (1, .int p0), (2, .int 24)]) (B' := []) ⟨rfl, rfl, rfl, trivial⟩ rfl (fun q h => by cases h) (g_X0_feeds_L3 self p0 t_self zFu 24 u)

def f_X0_feed (self : Nat) (p0 : Int32) (p1 : Int32) (p2 : Int32) (p3 : Int32) (p4 : Int32) (u : zM) : Option (Int32 × zM) := if ((mI u self 21) + 20) ≤ 400 then (bd (f_X0_feeds self p0 u) fun v1 u1 => bd (f_X0_feeds self p1 u1) fun v2 u2 => bd (f_X0_feeds self p2 u2) fun v3 u3 => bd (f_X0_feeds self p3 u3) fun v4 u4 => bd (f_X0_feeds self p4 u4) fun v5 u5 => some ((mI u5 self 21), u5)) else (some ((-1), u))
set_option maxHeartbeats 4000000 in
theorem ct_X0_feed (self : Nat) (p0 : Int32) (p1 : Int32) (p2 : Int32) (p3 : Int32) (p4 : Int32) (t_self : kd self = 0) : zMet yX0_feed cX0_feed 6 (some .int) 2 22 rvI (obT) [.ref self, .int p0, .int p1, .int p2, .int p3, .int p4] (f_X0_feed self p0 p1 p2 p3 p4) := by
  refine zMet_of (A := [(0, .ref self), (1, .int p0), (2, .int p1), (3, .int p2), (4, .int p3), (5, .int p4)]) (B := []) (ini := false) RX0 rfl (by decide +kernel) (fun h => by cases h) (by simp [lg_sl, Value.category]) (by simp [lv_args, Value.category]) rfl (by simp [lv_args, Value.category]) fun u => ?_
  unfold f_X0_feed
  refine go_aload_n (pc := 0) (j := 0) (i := 0) dX0_feed_0 rfl rfl ?_
  refine go_getI (pc := 1) (n := self) (ci := 0) (k := 21) fa_X0_338_0 t_self rfl dX0_feed_1 ?_
  refine go_bipush (pc := 4) (v := 20) dX0_feed_4 (by decide) ?_
  refine go_iadd (pc := 6) dX0_feed_6 ?_
  refine go_sipush (pc := 7) (v := 400) dX0_feed_7 (by decide) ?_
  refine go_icmp_le (pc := 10) (tgt := 15) dX0_feed_10 (by decide) (fun h1 => ?_) (fun h1 => ?_)
  · refine go_aload_n (pc := 15) (j := 0) (i := 0) dX0_feed_15 rfl rfl ?_
    refine go_iload_n (pc := 16) (j := 1) (i := 1) dX0_feed_16 rfl rfl ?_
    refine go_callVV (pc := 17) (ci := 0) (ct_X0_feeds self p0 t_self) lk_X0_341 rfl rfl rfl (by decide) t_self ⟨by decide, by decide⟩ (Nat.le_of_ble_eq_true rfl) dX0_feed_17 rfl fun v1 u1 => ?_
    refine go_aload_n (pc := 20) (j := 0) (i := 0) dX0_feed_20 rfl rfl ?_
    refine go_iload_n (pc := 21) (j := 2) (i := 2) dX0_feed_21 rfl rfl ?_
    refine go_callVV (pc := 22) (ci := 0) (ct_X0_feeds self p1 t_self) lk_X0_341 rfl rfl rfl (by decide) t_self ⟨by decide, by decide⟩ (Nat.le_of_ble_eq_true rfl) dX0_feed_22 rfl fun v2 u2 => ?_
    refine go_aload_n (pc := 25) (j := 0) (i := 0) dX0_feed_25 rfl rfl ?_
    refine go_iload_n (pc := 26) (j := 3) (i := 3) dX0_feed_26 rfl rfl ?_
    refine go_callVV (pc := 27) (ci := 0) (ct_X0_feeds self p2 t_self) lk_X0_341 rfl rfl rfl (by decide) t_self ⟨by decide, by decide⟩ (Nat.le_of_ble_eq_true rfl) dX0_feed_27 rfl fun v3 u3 => ?_
    refine go_aload_n (pc := 30) (j := 0) (i := 0) dX0_feed_30 rfl rfl ?_
    refine go_iload (pc := 31) (i := 4) dX0_feed_31 rfl ?_
    refine go_callVV (pc := 33) (ci := 0) (ct_X0_feeds self p3 t_self) lk_X0_341 rfl rfl rfl (by decide) t_self ⟨by decide, by decide⟩ (Nat.le_of_ble_eq_true rfl) dX0_feed_33 rfl fun v4 u4 => ?_
    refine go_aload_n (pc := 36) (j := 0) (i := 0) dX0_feed_36 rfl rfl ?_
    refine go_iload (pc := 37) (i := 5) dX0_feed_37 rfl ?_
    refine go_callVV (pc := 39) (ci := 0) (ct_X0_feeds self p4 t_self) lk_X0_341 rfl rfl rfl (by decide) t_self ⟨by decide, by decide⟩ (Nat.le_of_ble_eq_true rfl) dX0_feed_39 rfl fun v5 u5 => ?_
    refine go_aload_n (pc := 42) (j := 0) (i := 0) dX0_feed_42 rfl rfl ?_
    refine go_getI (pc := 43) (n := self) (ci := 0) (k := 21) fa_X0_338_0 t_self rfl dX0_feed_43 ?_
    exact go_ireturn (pc := 46) rfl dX0_feed_46
  · refine go_iconst (pc := 13) (v := (-1)) dX0_feed_13 (by decide) ?_
    exact go_ireturn (pc := 14) rfl dX0_feed_14

def f_X0_end (self : Nat) (p0 : Int32) (u : zM) : Option (Int32 × zM) := bd (f_X0_in p0 0 (mI u self 21) u) fun v1 u1 => if v1 = 0 then (gb 0 (some (0, u1))) else (lt (sI u1 self 21 p0) fun u2 => gb 1 (some (1, u2)))
set_option maxHeartbeats 4000000 in
theorem ct_X0_end (self : Nat) (p0 : Int32) (t_self : kd self = 0) : zMet yX0_end cX0_end 2 (some .boolean) 2 22 rvI (obT) [.ref self, .int p0] (f_X0_end self p0) := by
  refine zMet_of (A := [(0, .ref self), (1, .int p0)]) (B := []) (ini := false) RX0 rfl (by decide +kernel) (fun h => by cases h) (by simp [lg_sl, Value.category]) (by simp [lv_args, Value.category]) rfl (by simp [lv_args, Value.category]) fun u => ?_
  unfold f_X0_end
  refine go_iload_n (pc := 0) (j := 1) (i := 1) dX0_end_0 rfl rfl ?_
  refine go_iconst (pc := 1) (v := 0) dX0_end_1 (by decide) ?_
  refine go_aload_n (pc := 2) (j := 0) (i := 0) dX0_end_2 rfl rfl ?_
  refine go_getI (pc := 3) (n := self) (ci := 0) (k := 21) fa_X0_338_0 t_self rfl dX0_end_3 ?_
  refine go_callSI (pc := 6) (ct_X0_in p0 0 (mI u self 21)) lk_X0_116 rfl ⟨by decide, by decide⟩ (Nat.le_of_ble_eq_true rfl) dX0_end_6 rfl fun v1 u1 => ?_
  refine go_if_ne (pc := 9) (tgt := 14) dX0_end_9 (by decide) (fun h1 => ?_) (fun h1 => ?_)
  · refine go_iconst (pc := 12) (v := 0) dX0_end_12 (by decide) ?_
    exact go_zreturn (pc := 13) rfl dX0_end_13
  · refine go_aload_n (pc := 14) (j := 0) (i := 0) dX0_end_14 rfl rfl ?_
    refine go_iload_n (pc := 15) (j := 1) (i := 1) dX0_end_15 rfl rfl ?_
    refine go_putI (pc := 16) (n := self) (ci := 0) (k := 21) (v := p0) pa_X0_338_0 (fun h => by cases h) t_self rfl zKeep_int dX0_end_16 fun u2 => ?_
    refine go_iconst (pc := 19) (v := 1) dX0_end_19 (by decide) ?_
    exact go_zreturn (pc := 20) rfl dX0_end_20

def f_X0_fault (self : Nat) (u : zM) : Option (Int32 × zM) := lt (mR u self 13) fun r1 => lt (mR u self 12) fun r2 => oB r2 fun n1 => oB r1 fun n2 => bc (f_X1_read n2 n1 (mI u self 21) u) (fun v1 u1 => some ((-1), u1)) (fun n3 u2 => some ((mI u2 n3 6), u2))
set_option maxHeartbeats 4000000 in
theorem ct_X0_fault (self : Nat) (t_self : kd self = 0) : zMetW yX0_fault cX0_fault 2 (some .int) [(0, 17, 18, 348)] 2366 67399 rvI (obT) [.ref self] (f_X0_fault self) := by
  refine zMetW_of (A := [(0, .ref self)]) RX0 rfl (by decide +kernel) (by simp [lg_sl, Value.category]) (by simp [lv_args, Value.category]) rfl fun u => ?_
  unfold f_X0_fault
  refine go_aload_n (pc := 0) (j := 0) (i := 0) dX0_fault_0 rfl rfl ?_
  refine go_getR (pc := 1) (n := self) (ci := 0) (k := 13) (t := 1) fa_X0_81_0 t_self rfl dX0_fault_1 fun r1 t_r1 => ?_
  refine go_aload_n (pc := 4) (j := 0) (i := 0) dX0_fault_4 rfl rfl ?_
  refine go_getR (pc := 5) (n := self) (ci := 0) (k := 12) (t := 14) fa_X0_74_0 t_self rfl dX0_fault_5 fun r2 t_r2 => ?_
  refine go_aload_n (pc := 8) (j := 0) (i := 0) dX0_fault_8 rfl rfl ?_
  refine go_getI (pc := 9) (n := self) (ci := 0) (k := 21) fa_X0_338_0 t_self rfl dX0_fault_9 ?_
  refine go_oB fun n1 e_n1 => ?_
  have t_n1 := t_r2 n1 e_n1
  subst e_n1
  refine go_oB fun n2 e_n2 => ?_
  have t_n2 := t_r1 n2 e_n2
  subst e_n2
  refine go_callCR (pc := 12) (ci := 1) (ct_X1_read n2 n1 (mI u self 21) t_n2 t_n1) lk_X0_344 rfl rfl rfl (by decide) t_n2 ⟨by decide, by decide⟩ (Nat.le_of_ble_eq_true rfl) dX0_fault_12 rfl (by intro x hx; simp [tableOf] at hx; subst hx; exact ⟨by decide, rfl, rfl⟩) (by decide) q731 (fun v1 u1 t_v1 => ?_) (fun n3 u2 t_n3 => ?_)
  · refine go_popA (pc := 15) (r := v1) dX0_fault_15 ?_
    refine go_iconst (pc := 16) (v := (-1)) dX0_fault_16 (by decide) ?_
    exact go_ireturn (pc := 17) rfl dX0_fault_17
  · refine go_astore_n (pc := 18) (j := 1) (i := 1) (A' := [(0, .ref self), (1, .ref n3)]) rfl (by decide) rfl rfl rfl dX0_fault_18 ?_
    refine go_aload_n (pc := 19) (j := 1) (i := 1) dX0_fault_19 rfl rfl ?_
    refine go_getI (pc := 20) (n := n3) (ci := 11) (k := 6) fa_X0_350_11 t_n3 rfl dX0_fault_20 ?_
    exact go_ireturn (pc := 23) rfl dX0_fault_23

