set_option maxRecDepth 100000
def f_X0_sheet (self : Nat) (u : zM) : Option (Int32 × zM) := if (mI u self 19) = 8 then (some ((-1), u)) else (lt (mR u self 4) fun r1 => lt (mR u self 13) fun r2 => lt (mR u self 12) fun r3 => oB r3 fun n1 => oB r2 fun n2 => bc (f_X1_read n2 n1 (mI u self 21) u) (fun v1 u1 => oB r1 fun n4 => oB v1 fun n5 => ix (mI u self 19) (mN u1 n4) (lt (sR u1 n4 (xN (mI u self 19)) (some n5)) fun u3 => lt (sI u3 self 19 ((mI u3 self 19) + 1)) fun u4 => lt (sI u4 self 21 0) fun u5 => some (((mI u5 self 19) - 1), u5))) (fun n3 u2 => some ((-1), u2)))
set_option maxHeartbeats 4000000 in
theorem ct_X0_sheet (self : Nat) (t_self : kd self = 0) : zMetW yX0_sheet cX0_sheet 2 (some .int) [(11, 35, 38, 348)] 2366 67399 rvI (obT) [.ref self] (f_X0_sheet self) := by
  refine zMetW_of (A := [(0, .ref self)]) RX0 rfl (by decide +kernel) (by simp [lg_sl, Value.category]) (by simp [lv_args, Value.category]) rfl fun u => ?_
  unfold f_X0_sheet
  refine go_aload_n (pc := 0) (j := 0) (i := 0) dX0_sheet_0 rfl rfl ?_
  refine go_getI (pc := 1) (n := self) (ci := 0) (k := 19) fa_X0_353_0 t_self rfl dX0_sheet_1 ?_
  refine go_bipush (pc := 4) (v := 8) dX0_sheet_4 (by decide) ?_
  refine go_icmp_ne (pc := 6) (tgt := 11) dX0_sheet_6 (by decide) (fun h1 => ?_) (fun h1 => ?_)
  · refine go_iconst (pc := 9) (v := (-1)) dX0_sheet_9 (by decide) ?_
    exact go_ireturn (pc := 10) rfl dX0_sheet_10
  · refine go_aload_n (pc := 11) (j := 0) (i := 0) dX0_sheet_11 rfl rfl ?_
    refine go_getR (pc := 12) (n := self) (ci := 0) (k := 4) (t := 21) fa_X0_48_0 t_self rfl dX0_sheet_12 fun r1 t_r1 => ?_
    refine go_aload_n (pc := 15) (j := 0) (i := 0) dX0_sheet_15 rfl rfl ?_
    refine go_getI (pc := 16) (n := self) (ci := 0) (k := 19) fa_X0_353_0 t_self rfl dX0_sheet_16 ?_
    refine go_aload_n (pc := 19) (j := 0) (i := 0) dX0_sheet_19 rfl rfl ?_
    refine go_getR (pc := 20) (n := self) (ci := 0) (k := 13) (t := 1) fa_X0_81_0 t_self rfl dX0_sheet_20 fun r2 t_r2 => ?_
    refine go_aload_n (pc := 23) (j := 0) (i := 0) dX0_sheet_23 rfl rfl ?_
    refine go_getR (pc := 24) (n := self) (ci := 0) (k := 12) (t := 14) fa_X0_74_0 t_self rfl dX0_sheet_24 fun r3 t_r3 => ?_
    refine go_aload_n (pc := 27) (j := 0) (i := 0) dX0_sheet_27 rfl rfl ?_
    refine go_getI (pc := 28) (n := self) (ci := 0) (k := 21) fa_X0_338_0 t_self rfl dX0_sheet_28 ?_
    refine go_oB fun n1 e_n1 => ?_
    have t_n1 := t_r3 n1 e_n1
    subst e_n1
    refine go_oB fun n2 e_n2 => ?_
    have t_n2 := t_r2 n2 e_n2
    subst e_n2
    refine go_callCR (pc := 31) (ci := 1) (ct_X1_read n2 n1 (mI u self 21) t_n2 t_n1) lk_X0_344 rfl rfl rfl (by decide) t_n2 ⟨by decide, by decide⟩ (by simp [cat_rf, cat_int, cat_ref, cat_long]) dX0_sheet_31 rfl (by intro x hx; simp [tableOf] at hx; subst hx; exact ⟨by decide, rfl, rfl⟩) (by decide) q731 (fun v1 u1 t_v1 => ?_) (fun n3 u2 t_n3 => ?_)
    · refine go_oB fun n4 e_n4 => ?_
      have t_n4 := t_r1 n4 e_n4
      subst e_n4
      refine go_oB fun n5 e_n5 => ?_
      have t_n5 := t_v1 n5 e_n5
      subst e_n5
      refine go_aast (pc := 34) (ci := 21) (ck := 10) (C := RX10) (T := TX10) (N := 1) (by decide) (by decide) t_n4 t_n5 (by decide) rfl rfl rfl dX0_sheet_34 fun u3 => ?_
      refine go_goto (pc := 35) (tgt := 41) dX0_sheet_35 (by decide) ?_
      refine go_aload_n (pc := 41) (j := 0) (i := 0) dX0_sheet_41 rfl rfl ?_
      refine go_dupA (pc := 42) dX0_sheet_42 ?_
      refine go_getI (pc := 43) (n := self) (ci := 0) (k := 19) fa_X0_353_0 t_self rfl dX0_sheet_43 ?_
      refine go_iconst (pc := 46) (v := 1) dX0_sheet_46 (by decide) ?_
      refine go_iadd (pc := 47) dX0_sheet_47 ?_
      refine go_putI (pc := 48) (n := self) (ci := 0) (k := 19) (v := ((mI u3 self 19) + 1)) pa_X0_353_0 (fun h => by cases h) t_self rfl zKeep_int dX0_sheet_48 fun u4 => ?_
      refine go_aload_n (pc := 51) (j := 0) (i := 0) dX0_sheet_51 rfl rfl ?_
      refine go_iconst (pc := 52) (v := 0) dX0_sheet_52 (by decide) ?_
      refine go_putI (pc := 53) (n := self) (ci := 0) (k := 21) (v := 0) pa_X0_338_0 (fun h => by cases h) t_self rfl zKeep_int dX0_sheet_53 fun u5 => ?_
      refine go_aload_n (pc := 56) (j := 0) (i := 0) dX0_sheet_56 rfl rfl ?_
      refine go_getI (pc := 57) (n := self) (ci := 0) (k := 19) fa_X0_353_0 t_self rfl dX0_sheet_57 ?_
      refine go_iconst (pc := 60) (v := 1) dX0_sheet_60 (by decide) ?_
      refine go_isub (pc := 61) dX0_sheet_61 ?_
      exact go_ireturn (pc := 62) rfl dX0_sheet_62
    · refine go_astore_n (pc := 38) (j := 1) (i := 1) (A' := [(0, .ref self), (1, .ref n3)]) rfl (by decide) rfl rfl rfl dX0_sheet_38 ?_
      refine go_iconst (pc := 39) (v := (-1)) dX0_sheet_39 (by decide) ?_
      exact go_ireturn (pc := 40) rfl dX0_sheet_40

def f_X0_force (self : Nat) (p0 : Int32) (p1 : Int32) (u : zM) : Option (Int32 × zM) := bd (f_X0_in p0 0 ((mI u self 19) - 1) u) fun v1 u1 => if v1 = 0 then (some ((-1), u1)) else (bd (f_X0_in p1 (mI u1 self 14) 155 u1) fun v2 u2 => if v2 = 0 then (some ((-1), u2)) else (if (mI u2 self 20) = 12 then (some ((-1), u2)) else (lt (mR u2 self 5) fun r1 => oB r1 fun n1 => ix (mI u2 self 20) (mN u2 n1) (lt (sI u2 n1 (xN (mI u2 self 20)) p0) fun u3 => lt (mR u3 self 6) fun r2 => oB r2 fun n2 => ix (mI u3 self 20) (mN u3 n2) (lt (sI u3 n2 (xN (mI u3 self 20)) p1) fun u4 => lt (sI u4 self 20 ((mI u4 self 20) + 1)) fun u5 => some ((mI u5 self 20), u5))))))
set_option maxHeartbeats 4000000 in
theorem ct_X0_force (self : Nat) (p0 : Int32) (p1 : Int32) (t_self : kd self = 0) : zMet yX0_force cX0_force 3 (some .int) 2 22 rvI (obT) [.ref self, .int p0, .int p1] (f_X0_force self p0 p1) := by
  refine zMet_of (A := [(0, .ref self), (1, .int p0), (2, .int p1)]) (B := []) (ini := false) RX0 rfl (by decide +kernel) (fun h => by cases h) (by simp [lg_sl, Value.category]) (by simp [lv_args, Value.category]) rfl (by simp [lv_args, Value.category]) fun u => ?_
  unfold f_X0_force
  refine go_iload_n (pc := 0) (j := 1) (i := 1) dX0_force_0 rfl rfl ?_
  refine go_iconst (pc := 1) (v := 0) dX0_force_1 (by decide) ?_
  refine go_aload_n (pc := 2) (j := 0) (i := 0) dX0_force_2 rfl rfl ?_
  refine go_getI (pc := 3) (n := self) (ci := 0) (k := 19) fa_X0_353_0 t_self rfl dX0_force_3 ?_
  refine go_iconst (pc := 6) (v := 1) dX0_force_6 (by decide) ?_
  refine go_isub (pc := 7) dX0_force_7 ?_
  refine go_callSI (pc := 8) (ct_X0_in p0 0 ((mI u self 19) - 1)) lk_X0_116 rfl ⟨by decide, by decide⟩ (Nat.le_of_ble_eq_true rfl) dX0_force_8 rfl fun v1 u1 => ?_
  refine go_if_eq (pc := 11) (tgt := 37) dX0_force_11 (by decide) (fun h1 => ?_) (fun h1 => ?_)
  · refine go_iconst (pc := 37) (v := (-1)) dX0_force_37 (by decide) ?_
    exact go_ireturn (pc := 38) rfl dX0_force_38
  · refine go_iload_n (pc := 14) (j := 2) (i := 2) dX0_force_14 rfl rfl ?_
    refine go_aload_n (pc := 15) (j := 0) (i := 0) dX0_force_15 rfl rfl ?_
    refine go_getI (pc := 16) (n := self) (ci := 0) (k := 14) fa_X0_151_0 t_self rfl dX0_force_16 ?_
    refine go_sipush (pc := 19) (v := 155) dX0_force_19 (by decide) ?_
    refine go_callSI (pc := 22) (ct_X0_in p1 (mI u1 self 14) 155) lk_X0_116 rfl ⟨by decide, by decide⟩ (Nat.le_of_ble_eq_true rfl) dX0_force_22 rfl fun v2 u2 => ?_
    refine go_if_eq (pc := 25) (tgt := 37) dX0_force_25 (by decide) (fun h2 => ?_) (fun h2 => ?_)
    · refine go_iconst (pc := 37) (v := (-1)) dX0_force_37 (by decide) ?_
      exact go_ireturn (pc := 38) rfl dX0_force_38
    · refine go_aload_n (pc := 28) (j := 0) (i := 0) dX0_force_28 rfl rfl ?_
      refine go_getI (pc := 29) (n := self) (ci := 0) (k := 20) fa_X0_356_0 t_self rfl dX0_force_29 ?_
      refine go_bipush (pc := 32) (v := 12) dX0_force_32 (by decide) ?_
      refine go_icmp_ne (pc := 34) (tgt := 39) dX0_force_34 (by decide) (fun h3 => ?_) (fun h3 => ?_)
      · refine go_iconst (pc := 37) (v := (-1)) dX0_force_37 (by decide) ?_
        exact go_ireturn (pc := 38) rfl dX0_force_38
      · refine go_aload_n (pc := 39) (j := 0) (i := 0) dX0_force_39 rfl rfl ?_
        refine go_getR (pc := 40) (n := self) (ci := 0) (k := 5) (t := 13) fa_X0_52_0 t_self rfl dX0_force_40 fun r1 t_r1 => ?_
        refine go_aload_n (pc := 43) (j := 0) (i := 0) dX0_force_43 rfl rfl ?_
        refine go_getI (pc := 44) (n := self) (ci := 0) (k := 20) fa_X0_356_0 t_self rfl dX0_force_44 ?_
        refine go_iload_n (pc := 47) (j := 1) (i := 1) dX0_force_47 rfl rfl ?_
        refine go_oB fun n1 e_n1 => ?_
        have t_n1 := t_r1 n1 e_n1
        subst e_n1
        refine go_iast (pc := 48) t_n1 dX0_force_48 fun u3 => ?_
        refine go_aload_n (pc := 49) (j := 0) (i := 0) dX0_force_49 rfl rfl ?_
        refine go_getR (pc := 50) (n := self) (ci := 0) (k := 6) (t := 13) fa_X0_56_0 t_self rfl dX0_force_50 fun r2 t_r2 => ?_
        refine go_aload_n (pc := 53) (j := 0) (i := 0) dX0_force_53 rfl rfl ?_
        refine go_getI (pc := 54) (n := self) (ci := 0) (k := 20) fa_X0_356_0 t_self rfl dX0_force_54 ?_
        refine go_iload_n (pc := 57) (j := 2) (i := 2) dX0_force_57 rfl rfl ?_
        refine go_oB fun n2 e_n2 => ?_
        have t_n2 := t_r2 n2 e_n2
        subst e_n2
        refine go_iast (pc := 58) t_n2 dX0_force_58 fun u4 => ?_
        refine go_aload_n (pc := 59) (j := 0) (i := 0) dX0_force_59 rfl rfl ?_
        refine go_dupA (pc := 60) dX0_force_60 ?_
        refine go_getI (pc := 61) (n := self) (ci := 0) (k := 20) fa_X0_356_0 t_self rfl dX0_force_61 ?_
        refine go_iconst (pc := 64) (v := 1) dX0_force_64 (by decide) ?_
        refine go_iadd (pc := 65) dX0_force_65 ?_
        refine go_putI (pc := 66) (n := self) (ci := 0) (k := 20) (v := ((mI u4 self 20) + 1)) pa_X0_356_0 (fun h => by cases h) t_self rfl zKeep_int dX0_force_66 fun u5 => ?_
        refine go_aload_n (pc := 69) (j := 0) (i := 0) dX0_force_69 rfl rfl ?_
        refine go_getI (pc := 70) (n := self) (ci := 0) (k := 20) fa_X0_356_0 t_self rfl dX0_force_70 ?_
        exact go_ireturn (pc := 73) rfl dX0_force_73

def f_X0_why (self : Nat) (p0 : Int32) (p1 : Int32) (u : zM) : Option (Int32 × zM) := bd (f_X0_in p0 0 4 u) fun v1 u1 => if v1 = 0 then (some ((-1), u1)) else (bd (f_X0_in p1 0 155 u1) fun v2 u2 => if v2 = 0 then (some ((-1), u2)) else (bd (f_X0_inForce self p0 p1 u2) fun v3 u3 => some (v3, u3)))
set_option maxHeartbeats 4000000 in
theorem ct_X0_why (self : Nat) (p0 : Int32) (p1 : Int32) (t_self : kd self = 0) : zMet yX0_why cX0_why 3 (some .int) 2 25 rvI (obT) [.ref self, .int p0, .int p1] (f_X0_why self p0 p1) := by
  refine zMet_of (A := [(0, .ref self), (1, .int p0), (2, .int p1)]) (B := []) (ini := false) RX0 rfl (by decide +kernel) (fun h => by cases h) (by simp [lg_sl, Value.category]) (by simp [lv_args, Value.category]) rfl (by simp [lv_args, Value.category]) fun u => ?_
  unfold f_X0_why
  refine go_iload_n (pc := 0) (j := 1) (i := 1) dX0_why_0 rfl rfl ?_
  refine go_iconst (pc := 1) (v := 0) dX0_why_1 (by decide) ?_
  refine go_iconst (pc := 2) (v := 4) dX0_why_2 (by decide) ?_
  refine go_callSI (pc := 3) (ct_X0_in p0 0 4) lk_X0_116 rfl ⟨by decide, by decide⟩ (Nat.le_of_ble_eq_true rfl) dX0_why_3 rfl fun v1 u1 => ?_
  refine go_if_eq (pc := 6) (tgt := 29) dX0_why_6 (by decide) (fun h1 => ?_) (fun h1 => ?_)
  · refine go_iconst (pc := 29) (v := (-1)) dX0_why_29 (by decide) ?_
    exact go_ireturn (pc := 30) rfl dX0_why_30
  · refine go_iload_n (pc := 9) (j := 2) (i := 2) dX0_why_9 rfl rfl ?_
    refine go_iconst (pc := 10) (v := 0) dX0_why_10 (by decide) ?_
    refine go_sipush (pc := 11) (v := 155) dX0_why_11 (by decide) ?_
    refine go_callSI (pc := 14) (ct_X0_in p1 0 155) lk_X0_116 rfl ⟨by decide, by decide⟩ (Nat.le_of_ble_eq_true rfl) dX0_why_14 rfl fun v2 u2 => ?_
    refine go_if_eq (pc := 17) (tgt := 29) dX0_why_17 (by decide) (fun h2 => ?_) (fun h2 => ?_)
    · refine go_iconst (pc := 29) (v := (-1)) dX0_why_29 (by decide) ?_
      exact go_ireturn (pc := 30) rfl dX0_why_30
    · refine go_aload_n (pc := 20) (j := 0) (i := 0) dX0_why_20 rfl rfl ?_
      refine go_iload_n (pc := 21) (j := 1) (i := 1) dX0_why_21 rfl rfl ?_
      refine go_iload_n (pc := 22) (j := 2) (i := 2) dX0_why_22 rfl rfl ?_
      refine go_callVI (pc := 23) (ci := 0) (ct_X0_inForce self p0 p1 t_self) lk_X0_363 rfl rfl rfl (by decide) t_self ⟨by decide, by decide⟩ (Nat.le_of_ble_eq_true rfl) dX0_why_23 rfl fun v3 u3 => ?_
      refine go_goto (pc := 26) (tgt := 30) dX0_why_26 (by decide) ?_
      exact go_ireturn (pc := 30) rfl dX0_why_30

def f_X0_pay (self : Nat) (p0 : Int32) (p1 : Int32) (p2 : Int32) (u : zM) : Option (Int32 × zM) := bd (f_X0_findHouse self p0 u) fun v1 u1 => bd (f_X0_findLot self p1 u1) fun v2 u2 => oC v1 (some ((-2147483648), u2)) fun n1 => oC v2 (some ((-2147483648), u2)) fun n2 => bd (f_X0_in p2 1 (mI u2 n2 6) u2) fun v3 u3 => if v3 = 0 then (some ((-2147483648), u3)) else (lt (sI u3 n2 6 ((mI u3 n2 6) - p2)) fun u4 => lt (sI u4 n1 12 ((mI u4 n1 12) + p2)) fun u5 => lt (sI u5 self 23 ((mI u5 self 23) + p2)) fun u6 => lt (mR u6 n2 0) fun r1 => if r1 = (some n1) then (some (((mI u6 n1 11) - (mI u6 n1 12)), u6)) else (lt (sI u6 n1 13 ((mI u6 n1 13) + p2)) fun u7 => some (((mI u7 n1 11) - (mI u7 n1 12)), u7)))
set_option maxHeartbeats 4000000 in
theorem ct_X0_pay (self : Nat) (p0 : Int32) (p1 : Int32) (p2 : Int32) (t_self : kd self = 0) : zMet yX0_pay cX0_pay 6 (some .int) 3 43 rvI (obT) [.ref self, .int p0, .int p1, .int p2] (f_X0_pay self p0 p1 p2) := by
  refine zMet_of (A := [(0, .ref self), (1, .int p0), (2, .int p1), (3, .int p2)]) (B := []) (ini := false) RX0 rfl (by decide +kernel) (fun h => by cases h) (by simp [lg_sl, Value.category]) (by simp [lv_args, Value.category]) rfl (by simp [lv_args, Value.category]) fun u => ?_
  unfold f_X0_pay
  refine go_aload_n (pc := 0) (j := 0) (i := 0) dX0_pay_0 rfl rfl ?_
  refine go_iload_n (pc := 1) (j := 1) (i := 1) dX0_pay_1 rfl rfl ?_
  refine go_callVR (pc := 2) (ci := 0) (ct_X0_findHouse self p0 t_self) lk_X0_157 rfl rfl rfl (by decide) t_self ⟨by decide, by decide⟩ (Nat.le_of_ble_eq_true rfl) dX0_pay_2 rfl fun v1 u1 t_v1 => ?_
  refine go_astoreQ (pc := 5) (r := v1) (i := 4) (A' := [(0, .ref self), (1, .int p0), (2, .int p1), (3, .int p2), (4, va_rf v1)]) (by decide) rfl rfl rfl dX0_pay_5 ?_
  refine go_aload_n (pc := 7) (j := 0) (i := 0) dX0_pay_7 rfl rfl ?_
  refine go_iload_n (pc := 8) (j := 2) (i := 2) dX0_pay_8 rfl rfl ?_
  refine go_callVR (pc := 9) (ci := 0) (ct_X0_findLot self p1 t_self) lk_X0_317 rfl rfl rfl (by decide) t_self ⟨by decide, by decide⟩ (Nat.le_of_ble_eq_true rfl) dX0_pay_9 rfl fun v2 u2 t_v2 => ?_
  refine go_astoreQ (pc := 12) (r := v2) (i := 5) (A' := [(0, .ref self), (1, .int p0), (2, .int p1), (3, .int p2), (4, va_rf v1), (5, va_rf v2)]) (by decide) rfl rfl rfl dX0_pay_12 ?_
  refine go_aloadQ (pc := 14) (r := v1) (i := 4) dX0_pay_14 rfl ?_
  refine go_ifnull (pc := 16) (tgt := 37) dX0_pay_16 (by decide) (fun e_n1 => ?_) (fun n1 e_n1 => ?_)
  · subst e_n1
    refine go_ldc (pc := 37) (v := (-2147483648)) dX0_pay_37 q541 ?_
    exact go_ireturn (pc := 39) rfl dX0_pay_39
  · have t_n1 := t_v1 n1 e_n1
    subst e_n1
    refine go_aloadQ (pc := 19) (r := v2) (i := 5) dX0_pay_19 rfl ?_
    refine go_ifnull (pc := 21) (tgt := 37) dX0_pay_21 (by decide) (fun e_n2 => ?_) (fun n2 e_n2 => ?_)
    · subst e_n2
      refine go_ldc (pc := 37) (v := (-2147483648)) dX0_pay_37 q541 ?_
      exact go_ireturn (pc := 39) rfl dX0_pay_39
    · have t_n2 := t_v2 n2 e_n2
      subst e_n2
      refine go_iload_n (pc := 24) (j := 3) (i := 3) dX0_pay_24 rfl rfl ?_
      refine go_iconst (pc := 25) (v := 1) dX0_pay_25 (by decide) ?_
      refine go_aload (pc := 26) (i := 5) dX0_pay_26 rfl ?_
      refine go_getI (pc := 28) (n := n2) (ci := 8) (k := 6) fa_X0_308_8 t_n2 rfl dX0_pay_28 ?_
      refine go_callSI (pc := 31) (ct_X0_in p2 1 (mI u2 n2 6)) lk_X0_116 rfl ⟨by decide, by decide⟩ (Nat.le_of_ble_eq_true rfl) dX0_pay_31 rfl fun v3 u3 => ?_
      refine go_if_ne (pc := 34) (tgt := 40) dX0_pay_34 (by decide) (fun h1 => ?_) (fun h1 => ?_)
      · refine go_ldc (pc := 37) (v := (-2147483648)) dX0_pay_37 q541 ?_
        exact go_ireturn (pc := 39) rfl dX0_pay_39
      · refine go_aload (pc := 40) (i := 5) dX0_pay_40 rfl ?_
        refine go_dupA (pc := 42) dX0_pay_42 ?_
        refine go_getI (pc := 43) (n := n2) (ci := 8) (k := 6) fa_X0_308_8 t_n2 rfl dX0_pay_43 ?_
        refine go_iload_n (pc := 46) (j := 3) (i := 3) dX0_pay_46 rfl rfl ?_
        refine go_isub (pc := 47) dX0_pay_47 ?_
        refine go_putI (pc := 48) (n := n2) (ci := 8) (k := 6) (v := ((mI u3 n2 6) - p2)) pa_X0_308_8 (fun h => by cases h) t_n2 rfl zKeep_int dX0_pay_48 fun u4 => ?_
        refine go_aload (pc := 51) (i := 4) dX0_pay_51 rfl ?_
        refine go_dupA (pc := 53) dX0_pay_53 ?_
        refine go_getI (pc := 54) (n := n1) (ci := 5) (k := 12) fa_X0_390_5 t_n1 rfl dX0_pay_54 ?_
        refine go_iload_n (pc := 57) (j := 3) (i := 3) dX0_pay_57 rfl rfl ?_
        refine go_iadd (pc := 58) dX0_pay_58 ?_
        refine go_putI (pc := 59) (n := n1) (ci := 5) (k := 12) (v := ((mI u4 n1 12) + p2)) pa_X0_390_5 (fun h => by cases h) t_n1 rfl zKeep_int dX0_pay_59 fun u5 => ?_
        refine go_aload_n (pc := 62) (j := 0) (i := 0) dX0_pay_62 rfl rfl ?_
        refine go_dupA (pc := 63) dX0_pay_63 ?_
        refine go_getI (pc := 64) (n := self) (ci := 0) (k := 23) fa_X0_311_0 t_self rfl dX0_pay_64 ?_
        refine go_iload_n (pc := 67) (j := 3) (i := 3) dX0_pay_67 rfl rfl ?_
        refine go_iadd (pc := 68) dX0_pay_68 ?_
        refine go_putI (pc := 69) (n := self) (ci := 0) (k := 23) (v := ((mI u5 self 23) + p2)) pa_X0_311_0 (fun h => by cases h) t_self rfl zKeep_int dX0_pay_69 fun u6 => ?_
        refine go_aload (pc := 72) (i := 5) dX0_pay_72 rfl ?_
        refine go_getR (pc := 74) (n := n2) (ci := 8) (k := 0) (t := 5) fa_X0_321_8 t_n2 rfl dX0_pay_74 fun r1 t_r1 => ?_
        refine go_aload (pc := 77) (i := 4) dX0_pay_77 rfl ?_
        refine go_acmp (pc := 79) (eq := true) (x := r1) (y := some n1) (k := 5) (tgt := 93) (by decide) t_r1 (fun n h => by cases h; exact t_n1) dX0_pay_79 (by decide) ?_ ?_
        · refine go_aload (pc := 93) (i := 4) dX0_pay_93 rfl ?_
          refine go_getI (pc := 95) (n := n1) (ci := 5) (k := 11) fa_X0_205_5 t_n1 rfl dX0_pay_95 ?_
          refine go_aload (pc := 98) (i := 4) dX0_pay_98 rfl ?_
          refine go_getI (pc := 100) (n := n1) (ci := 5) (k := 12) fa_X0_390_5 t_n1 rfl dX0_pay_100 ?_
          refine go_isub (pc := 103) dX0_pay_103 ?_
          exact go_ireturn (pc := 104) rfl dX0_pay_104
        · refine go_aload (pc := 82) (i := 4) dX0_pay_82 rfl ?_
          refine go_dupA (pc := 84) dX0_pay_84 ?_
          refine go_getI (pc := 85) (n := n1) (ci := 5) (k := 13) fa_X0_393_5 t_n1 rfl dX0_pay_85 ?_
          refine go_iload_n (pc := 88) (j := 3) (i := 3) dX0_pay_88 rfl rfl ?_
          refine go_iadd (pc := 89) dX0_pay_89 ?_
          refine go_putI (pc := 90) (n := n1) (ci := 5) (k := 13) (v := ((mI u6 n1 13) + p2)) pa_X0_393_5 (fun h => by cases h) t_n1 rfl zKeep_int dX0_pay_90 fun u7 => ?_
          refine go_aload (pc := 93) (i := 4) dX0_pay_93 rfl ?_
          refine go_getI (pc := 95) (n := n1) (ci := 5) (k := 11) fa_X0_205_5 t_n1 rfl dX0_pay_95 ?_
          refine go_aload (pc := 98) (i := 4) dX0_pay_98 rfl ?_
          refine go_getI (pc := 100) (n := n1) (ci := 5) (k := 12) fa_X0_390_5 t_n1 rfl dX0_pay_100 ?_
          refine go_isub (pc := 103) dX0_pay_103 ?_
          exact go_ireturn (pc := 104) rfl dX0_pay_104

def f_X0_due (self : Nat) (p0 : Int32) (p1 : Int32) (u : zM) : Option (Int32 × zM) := bd (f_X0_findHouse self p0 u) fun v1 u1 => oC v1 (some ((-2147483648), u1)) fun n1 => if p1 = 0 then (some (((mI u1 n1 11) - (mI u1 n1 12)), u1)) else (if p1 = 1 then (some ((mI u1 n1 12), u1)) else (if p1 = 2 then (some ((mI u1 n1 14), u1)) else (if p1 = 3 then (some ((if 0 < ((mI u1 n1 12) - (mI u1 n1 14)) then ((mI u1 n1 12) - (mI u1 n1 14)) else 0), u1)) else (if p1 = 4 then (some ((mI u1 n1 13), u1)) else (some ((-2147483648), u1))))))
set_option maxHeartbeats 4000000 in
theorem ct_X0_due (self : Nat) (p0 : Int32) (p1 : Int32) (t_self : kd self = 0) : zMet yX0_due cX0_due 4 (some .int) 3 43 rvI (obT) [.ref self, .int p0, .int p1] (f_X0_due self p0 p1) := by
  refine zMet_of (A := [(0, .ref self), (1, .int p0), (2, .int p1)]) (B := []) (ini := false) RX0 rfl (by decide +kernel) (fun h => by cases h) (by simp [lg_sl, Value.category]) (by simp [lv_args, Value.category]) rfl (by simp [lv_args, Value.category]) fun u => ?_
  unfold f_X0_due
  refine go_aload_n (pc := 0) (j := 0) (i := 0) dX0_due_0 rfl rfl ?_
  refine go_iload_n (pc := 1) (j := 1) (i := 1) dX0_due_1 rfl rfl ?_
  refine go_callVR (pc := 2) (ci := 0) (ct_X0_findHouse self p0 t_self) lk_X0_157 rfl rfl rfl (by decide) t_self ⟨by decide, by decide⟩ (Nat.le_of_ble_eq_true rfl) dX0_due_2 rfl fun v1 u1 t_v1 => ?_
  refine go_astore_nQ (pc := 5) (j := 3) (r := v1) (i := 3) (A' := [(0, .ref self), (1, .int p0), (2, .int p1), (3, va_rf v1)]) rfl (by decide) rfl rfl rfl dX0_due_5 ?_
  refine go_aload_nQ (pc := 6) (j := 3) (r := v1) (i := 3) dX0_due_6 rfl rfl ?_
  refine go_ifnonnull (pc := 7) (tgt := 13) dX0_due_7 (by decide) (fun e_n1 => ?_) (fun n1 e_n1 => ?_)
  · subst e_n1
    refine go_ldc (pc := 10) (v := (-2147483648)) dX0_due_10 q541 ?_
    exact go_ireturn (pc := 12) rfl dX0_due_12
  · have t_n1 := t_v1 n1 e_n1
    subst e_n1
    refine go_iload_n (pc := 13) (j := 2) (i := 2) dX0_due_13 rfl rfl ?_
    refine go_if (fun h1 => ?_) (fun h1 => ?_)
    · refine go_tableIn (pc := 14) (tgt := 48) 0 h1 dX0_due_14 (by decide) (by decide) rfl (by decide) ?_
      refine go_aload_n (pc := 48) (j := 3) (i := 3) dX0_due_48 rfl rfl ?_
      refine go_getI (pc := 49) (n := n1) (ci := 5) (k := 11) fa_X0_205_5 t_n1 rfl dX0_due_49 ?_
      refine go_aload_n (pc := 52) (j := 3) (i := 3) dX0_due_52 rfl rfl ?_
      refine go_getI (pc := 53) (n := n1) (ci := 5) (k := 12) fa_X0_390_5 t_n1 rfl dX0_due_53 ?_
      refine go_isub (pc := 56) dX0_due_56 ?_
      exact go_ireturn (pc := 57) rfl dX0_due_57
    refine go_if (fun h2 => ?_) (fun h2 => ?_)
    · refine go_tableIn (pc := 14) (tgt := 58) 1 h2 dX0_due_14 (by decide) (by decide) rfl (by decide) ?_
      refine go_aload_n (pc := 58) (j := 3) (i := 3) dX0_due_58 rfl rfl ?_
      refine go_getI (pc := 59) (n := n1) (ci := 5) (k := 12) fa_X0_390_5 t_n1 rfl dX0_due_59 ?_
      exact go_ireturn (pc := 62) rfl dX0_due_62
    refine go_if (fun h3 => ?_) (fun h3 => ?_)
    · refine go_tableIn (pc := 14) (tgt := 63) 2 h3 dX0_due_14 (by decide) (by decide) rfl (by decide) ?_
      refine go_aload_n (pc := 63) (j := 3) (i := 3) dX0_due_63 rfl rfl ?_
      refine go_getI (pc := 64) (n := n1) (ci := 5) (k := 14) fa_X0_234_5 t_n1 rfl dX0_due_64 ?_
      exact go_ireturn (pc := 67) rfl dX0_due_67
    refine go_if (fun h4 => ?_) (fun h4 => ?_)
    · refine go_tableIn (pc := 14) (tgt := 68) 3 h4 dX0_due_14 (by decide) (by decide) rfl (by decide) ?_
      refine go_iconst (pc := 68) (v := 0) dX0_due_68 (by decide) ?_
      refine go_aload_n (pc := 69) (j := 3) (i := 3) dX0_due_69 rfl rfl ?_
      refine go_getI (pc := 70) (n := n1) (ci := 5) (k := 12) fa_X0_390_5 t_n1 rfl dX0_due_70 ?_
      refine go_aload_n (pc := 73) (j := 3) (i := 3) dX0_due_73 rfl rfl ?_
      refine go_getI (pc := 74) (n := n1) (ci := 5) (k := 14) fa_X0_234_5 t_n1 rfl dX0_due_74 ?_
      refine go_isub (pc := 77) dX0_due_77 ?_
      refine go_mmaxI (pc := 78) dX0_due_78 q672 q584 q102 q585 (by decide) (Nat.le_of_ble_eq_true rfl) ?_
      exact go_ireturn (pc := 81) rfl dX0_due_81
    refine go_if (fun h5 => ?_) (fun h5 => ?_)
    · refine go_tableIn (pc := 14) (tgt := 82) 4 h5 dX0_due_14 (by decide) (by decide) rfl (by decide) ?_
      refine go_aload_n (pc := 82) (j := 3) (i := 3) dX0_due_82 rfl rfl ?_
      refine go_getI (pc := 83) (n := n1) (ci := 5) (k := 13) fa_X0_393_5 t_n1 rfl dX0_due_83 ?_
      exact go_ireturn (pc := 86) rfl dX0_due_86
    refine go_tableD (pc := 14) (x := p1) (tgt := 87) dX0_due_14 (by decide) (fun a b => ?_) ?_
    · rcases (show Int32.toInt p1 = 0 ∨ Int32.toInt p1 = 1 ∨ Int32.toInt p1 = 2 ∨ Int32.toInt p1 = 3 ∨ Int32.toInt p1 = 4 by omega) with e | e | e | e | e
      · exact absurd (sw_eq (v := 0) (e.trans (by decide))) h1
      · exact absurd (sw_eq (v := 1) (e.trans (by decide))) h2
      · exact absurd (sw_eq (v := 2) (e.trans (by decide))) h3
      · exact absurd (sw_eq (v := 3) (e.trans (by decide))) h4
      · exact absurd (sw_eq (v := 4) (e.trans (by decide))) h5
    · refine go_ldc (pc := 87) (v := (-2147483648)) dX0_due_87 q541 ?_
      exact go_ireturn (pc := 89) rfl dX0_due_89

def f_X0_canBeWoven (p0 : Int32) (u : zM) : Option (Int32 × zM) := bd (f_X0_in p0 2 100 u) fun v1 u1 => if v1 = 0 then (gb 0 (some (0, u1))) else (if (p0 - p0 / 2 * 2) = 0 then (gb 1 (some (1, u1))) else (gb 0 (some (0, u1))))
set_option maxHeartbeats 4000000 in
theorem ct_X0_canBeWoven (p0 : Int32) : zMet yX0_canBeWoven cX0_canBeWoven 1 (some .boolean) 2 22 rvI (obT) [.int p0] (f_X0_canBeWoven p0) := by
  refine zMet_of (A := [(0, .int p0)]) (B := []) (ini := false) RX0 rfl (by decide +kernel) (fun h => by cases h) (by simp [lg_sl, Value.category]) (by simp [lv_args, Value.category]) rfl (by simp [lv_args, Value.category]) fun u => ?_
  unfold f_X0_canBeWoven
  refine go_iload_n (pc := 0) (j := 0) (i := 0) dX0_canBeWoven_0 rfl rfl ?_
  refine go_iconst (pc := 1) (v := 2) dX0_canBeWoven_1 (by decide) ?_
  refine go_bipush (pc := 2) (v := 100) dX0_canBeWoven_2 (by decide) ?_
  refine go_callSI (pc := 4) (ct_X0_in p0 2 100) lk_X0_116 rfl ⟨by decide, by decide⟩ (Nat.le_of_ble_eq_true rfl) dX0_canBeWoven_4 rfl fun v1 u1 => ?_
  refine go_if_eq (pc := 7) (tgt := 20) dX0_canBeWoven_7 (by decide) (fun h1 => ?_) (fun h1 => ?_)
  · refine go_iconst (pc := 20) (v := 0) dX0_canBeWoven_20 (by decide) ?_
    exact go_zreturn (pc := 21) rfl dX0_canBeWoven_21
  · refine go_iload_n (pc := 10) (j := 0) (i := 0) dX0_canBeWoven_10 rfl rfl ?_
    refine go_iconst (pc := 11) (v := 2) dX0_canBeWoven_11 (by decide) ?_
    refine go_irem (pc := 12) dX0_canBeWoven_12 (by decide) ?_
    refine go_if_ne (pc := 13) (tgt := 20) dX0_canBeWoven_13 (by decide) (fun h2 => ?_) (fun h2 => ?_)
    · refine go_iconst (pc := 16) (v := 1) dX0_canBeWoven_16 (by decide) ?_
      refine go_goto (pc := 17) (tgt := 21) dX0_canBeWoven_17 (by decide) ?_
      exact go_zreturn (pc := 21) rfl dX0_canBeWoven_21
    · refine go_iconst (pc := 20) (v := 0) dX0_canBeWoven_20 (by decide) ?_
      exact go_zreturn (pc := 21) rfl dX0_canBeWoven_21

def f_X0_barAll (self : Nat) (p0 : Nat) (p1 : Nat) (p2 : Int32) (u : zM) : Option (Int32 × zM) := bd (f_X0_barOf self p0 p1 p2 u) fun v1 u1 => if v1 ≤ 0 then (if p2 ≤ (mI u1 p1 6) then (lt (mR u1 p0 15) fun r1 => oB r1 fun n1 => lt (mR u1 p0 15) fun r2 => oB r2 fun n2 => if p2 ≤ ((mI u1 n1 2) - (mI u1 n2 3)) then (some (0, u1)) else (some (7, u1))) else (some (6, u1))) else (some (v1, u1))
set_option maxHeartbeats 4000000 in
theorem ct_X0_barAll (self : Nat) (p0 : Nat) (p1 : Nat) (p2 : Int32) (t_self : kd self = 0) (t_p0 : kd p0 = 5) (t_p1 : kd p1 = 8) : zMet yX0_barAll cX0_barAll 5 (some .int) 8 203 rvI (obT) [.ref self, .ref p0, .ref p1, .int p2] (f_X0_barAll self p0 p1 p2) := by
  refine zMet_of (A := [(0, .ref self), (1, .ref p0), (2, .ref p1), (3, .int p2)]) (B := []) (ini := false) RX0 rfl (by decide +kernel) (fun h => by cases h) (by simp [lg_sl, Value.category]) (by simp [lv_args, Value.category]) rfl (by simp [lv_args, Value.category]) fun u => ?_
  unfold f_X0_barAll
  refine go_aload_n (pc := 0) (j := 0) (i := 0) dX0_barAll_0 rfl rfl ?_
  refine go_aload_n (pc := 1) (j := 1) (i := 1) dX0_barAll_1 rfl rfl ?_
  refine go_aload_n (pc := 2) (j := 2) (i := 2) dX0_barAll_2 rfl rfl ?_
  refine go_iload_n (pc := 3) (j := 3) (i := 3) dX0_barAll_3 rfl rfl ?_
  refine go_callVI (pc := 4) (ci := 0) (ct_X0_barOf self p0 p1 p2 t_self t_p0 t_p1) lk_X0_406 rfl rfl rfl (by decide) t_self ⟨by decide, by decide⟩ (Nat.le_of_ble_eq_true rfl) dX0_barAll_4 rfl fun v1 u1 => ?_
  refine go_istore (pc := 7) (i := 4) (A' := [(0, .ref self), (1, .ref p0), (2, .ref p1), (3, .int p2), (4, .int v1)]) (by decide) rfl rfl rfl dX0_barAll_7 ?_
  refine go_iload (pc := 9) (i := 4) dX0_barAll_9 rfl ?_
  refine go_if_le (pc := 11) (tgt := 19) dX0_barAll_11 (by decide) (fun h1 => ?_) (fun h1 => ?_)
  · refine go_iload_n (pc := 19) (j := 3) (i := 3) dX0_barAll_19 rfl rfl ?_
    refine go_aload_n (pc := 20) (j := 2) (i := 2) dX0_barAll_20 rfl rfl ?_
    refine go_getI (pc := 21) (n := p1) (ci := 8) (k := 6) fa_X0_308_8 t_p1 rfl dX0_barAll_21 ?_
    refine go_icmp_le (pc := 24) (tgt := 32) dX0_barAll_24 (by decide) (fun h2 => ?_) (fun h2 => ?_)
    · refine go_iload_n (pc := 32) (j := 3) (i := 3) dX0_barAll_32 rfl rfl ?_
      refine go_aload_n (pc := 33) (j := 1) (i := 1) dX0_barAll_33 rfl rfl ?_
      refine go_getR (pc := 34) (n := p0) (ci := 5) (k := 15) (t := 6) fa_X0_161_5 t_p0 rfl dX0_barAll_34 fun r1 t_r1 => ?_
      refine go_oB fun n1 e_n1 => ?_
      have t_n1 := t_r1 n1 e_n1
      subst e_n1
      refine go_getI (pc := 37) (n := n1) (ci := 6) (k := 2) fa_X0_410_6 t_n1 rfl dX0_barAll_37 ?_
      refine go_aload_n (pc := 40) (j := 1) (i := 1) dX0_barAll_40 rfl rfl ?_
      refine go_getR (pc := 41) (n := p0) (ci := 5) (k := 15) (t := 6) fa_X0_161_5 t_p0 rfl dX0_barAll_41 fun r2 t_r2 => ?_
      refine go_oB fun n2 e_n2 => ?_
      have t_n2 := t_r2 n2 e_n2
      subst e_n2
      refine go_getI (pc := 44) (n := n2) (ci := 6) (k := 3) fa_X0_227_6 t_n2 rfl dX0_barAll_44 ?_
      refine go_isub (pc := 47) dX0_barAll_47 ?_
      refine go_icmp_le (pc := 48) (tgt := 56) dX0_barAll_48 (by decide) (fun h3 => ?_) (fun h3 => ?_)
      · refine go_iconst (pc := 56) (v := 0) dX0_barAll_56 (by decide) ?_
        exact go_ireturn (pc := 57) rfl dX0_barAll_57
      · refine go_bipush (pc := 51) (v := 7) dX0_barAll_51 (by decide) ?_
        refine go_goto (pc := 53) (tgt := 57) dX0_barAll_53 (by decide) ?_
        exact go_ireturn (pc := 57) rfl dX0_barAll_57
    · refine go_bipush (pc := 27) (v := 6) dX0_barAll_27 (by decide) ?_
      refine go_goto (pc := 29) (tgt := 57) dX0_barAll_29 (by decide) ?_
      exact go_ireturn (pc := 57) rfl dX0_barAll_57
  · refine go_iload (pc := 14) (i := 4) dX0_barAll_14 rfl ?_
    refine go_goto (pc := 16) (tgt := 57) dX0_barAll_16 (by decide) ?_
    exact go_ireturn (pc := 57) rfl dX0_barAll_57

def f_X0_bar (self : Nat) (p0 : Int32) (p1 : Int32) (p2 : Int32) (u : zM) : Option (Int32 × zM) := bd (f_X0_findHouse self p0 u) fun v1 u1 => bd (f_X0_findLot self p1 u1) fun v2 u2 => oC v1 (some ((-1), u2)) fun n1 => oC v2 (some ((-1), u2)) fun n2 => bd (f_X0_canBeWoven p2 u2) fun v3 u3 => if v3 = 0 then (some ((-1), u3)) else (bd (f_X0_barAll self n1 n2 p2 u3) fun v4 u4 => some (v4, u4))
set_option maxHeartbeats 4000000 in
theorem ct_X0_bar (self : Nat) (p0 : Int32) (p1 : Int32) (p2 : Int32) (t_self : kd self = 0) : zMet yX0_bar cX0_bar 6 (some .int) 9 227 rvI (obT) [.ref self, .int p0, .int p1, .int p2] (f_X0_bar self p0 p1 p2) := by
  refine zMet_of (A := [(0, .ref self), (1, .int p0), (2, .int p1), (3, .int p2)]) (B := []) (ini := false) RX0 rfl (by decide +kernel) (fun h => by cases h) (by simp [lg_sl, Value.category]) (by simp [lv_args, Value.category]) rfl (by simp [lv_args, Value.category]) fun u => ?_
  unfold f_X0_bar
  refine go_aload_n (pc := 0) (j := 0) (i := 0) dX0_bar_0 rfl rfl ?_
  refine go_iload_n (pc := 1) (j := 1) (i := 1) dX0_bar_1 rfl rfl ?_
  refine go_callVR (pc := 2) (ci := 0) (ct_X0_findHouse self p0 t_self) lk_X0_157 rfl rfl rfl (by decide) t_self ⟨by decide, by decide⟩ (Nat.le_of_ble_eq_true rfl) dX0_bar_2 rfl fun v1 u1 t_v1 => ?_
  refine go_astoreQ (pc := 5) (r := v1) (i := 4) (A' := [(0, .ref self), (1, .int p0), (2, .int p1), (3, .int p2), (4, va_rf v1)]) (by decide) rfl rfl rfl dX0_bar_5 ?_
  refine go_aload_n (pc := 7) (j := 0) (i := 0) dX0_bar_7 rfl rfl ?_
  refine go_iload_n (pc := 8) (j := 2) (i := 2) dX0_bar_8 rfl rfl ?_
  refine go_callVR (pc := 9) (ci := 0) (ct_X0_findLot self p1 t_self) lk_X0_317 rfl rfl rfl (by decide) t_self ⟨by decide, by decide⟩ (Nat.le_of_ble_eq_true rfl) dX0_bar_9 rfl fun v2 u2 t_v2 => ?_
  refine go_astoreQ (pc := 12) (r := v2) (i := 5) (A' := [(0, .ref self), (1, .int p0), (2, .int p1), (3, .int p2), (4, va_rf v1), (5, va_rf v2)]) (by decide) rfl rfl rfl dX0_bar_12 ?_
  refine go_aloadQ (pc := 14) (r := v1) (i := 4) dX0_bar_14 rfl ?_
  refine go_ifnull (pc := 16) (tgt := 31) dX0_bar_16 (by decide) (fun e_n1 => ?_) (fun n1 e_n1 => ?_)
  · subst e_n1
    refine go_iconst (pc := 31) (v := (-1)) dX0_bar_31 (by decide) ?_
    refine go_goto (pc := 32) (tgt := 44) dX0_bar_32 (by decide) ?_
    exact go_ireturn (pc := 44) rfl dX0_bar_44
  · have t_n1 := t_v1 n1 e_n1
    subst e_n1
    refine go_aloadQ (pc := 19) (r := v2) (i := 5) dX0_bar_19 rfl ?_
    refine go_ifnull (pc := 21) (tgt := 31) dX0_bar_21 (by decide) (fun e_n2 => ?_) (fun n2 e_n2 => ?_)
    · subst e_n2
      refine go_iconst (pc := 31) (v := (-1)) dX0_bar_31 (by decide) ?_
      refine go_goto (pc := 32) (tgt := 44) dX0_bar_32 (by decide) ?_
      exact go_ireturn (pc := 44) rfl dX0_bar_44
    · have t_n2 := t_v2 n2 e_n2
      subst e_n2
      refine go_iload_n (pc := 24) (j := 3) (i := 3) dX0_bar_24 rfl rfl ?_
      refine go_callSI (pc := 25) (ct_X0_canBeWoven p2) lk_X0_411 rfl ⟨by decide, by decide⟩ (Nat.le_of_ble_eq_true rfl) dX0_bar_25 rfl fun v3 u3 => ?_
      refine go_if_ne (pc := 28) (tgt := 35) dX0_bar_28 (by decide) (fun h1 => ?_) (fun h1 => ?_)
      · refine go_iconst (pc := 31) (v := (-1)) dX0_bar_31 (by decide) ?_
        refine go_goto (pc := 32) (tgt := 44) dX0_bar_32 (by decide) ?_
        exact go_ireturn (pc := 44) rfl dX0_bar_44
      · refine go_aload_n (pc := 35) (j := 0) (i := 0) dX0_bar_35 rfl rfl ?_
        refine go_aload (pc := 36) (i := 4) dX0_bar_36 rfl ?_
        refine go_aload (pc := 38) (i := 5) dX0_bar_38 rfl ?_
        refine go_iload_n (pc := 40) (j := 3) (i := 3) dX0_bar_40 rfl rfl ?_
        refine go_callVI (pc := 41) (ci := 0) (ct_X0_barAll self n1 n2 p2 t_self t_n1 t_n2) lk_X0_414 rfl rfl rfl (by decide) t_self ⟨by decide, by decide⟩ (Nat.le_of_ble_eq_true rfl) dX0_bar_41 rfl fun v4 u4 => ?_
        exact go_ireturn (pc := 44) rfl dX0_bar_44

def f_X0_weave (self : Nat) (p0 : Int32) (p1 : Int32) (p2 : Int32) (u : zM) : Option (Int32 × zM) := bd (f_X0_bar self p0 p1 p2 u) fun v1 u1 => if v1 = 0 then (if (mI u1 self 18) = 200 then (some ((-1), u1)) else (if (mI u1 self 14) = 156 then (some ((-1), u1)) else (lt (mR u1 self 1) fun r1 => oB r1 fun n1 => ix p0 (mN u1 n1) (lt (mR u1 n1 (xN p0)) fun r2 => lt (mR u1 self 2) fun r3 => oB r3 fun n2 => ix p1 (mN u1 n2) (lt (mR u1 n2 (xN p1)) fun r4 => oB r2 fun n3 => oB r4 fun n4 => bd (f_X0_asksLot self 4 n4 n3 p2 u1) fun v2 u2 => lt (fun (z1 : Int32) (u3 : zM) => bd (f_X0_asksLot self 1 n4 n3 p2 u3) fun v3 u4 => lt (mR u4 n4 0) fun r5 => oB r5 fun n5 => lt (sI u4 n5 6 ((mI u4 n5 6) - (if 0 < v3 then v3 else 0))) fun u5 => lt (sI u5 n3 6 ((mI u5 n3 6) + (if 0 < v3 then v3 else 0))) fun u6 => lt (sI u6 n4 6 ((mI u6 n4 6) - p2)) fun u7 => lt (mR u7 n3 15) fun r6 => oB r6 fun n6 => lt (sI u7 n6 3 ((mI u7 n6 3) + p2)) fun u8 => lt (sI u8 self 24 ((mI u8 self 24) + p2)) fun u9 => lt (mR u9 self 3) fun r7 => lt (nx u9 12) fun n7 => lt (mkc u9 12 0 6) fun u10 => bd (f_X12_init n7 n4 n3 (mI u10 self 14) p2 z1 u10) fun v4 u11 => oB r7 fun n8 => ix (mI u9 self 18) (mN u11 n8) (lt (sR u11 n8 (xN (mI u9 self 18)) (some n7)) fun u12 => lt (sI u12 self 18 ((mI u12 self 18) + 1)) fun u13 => some (((mI u13 self 18) - 1), u13))) fun j1 => if v2 = 0 then (j1 0 u2) else (j1 1 u2)))))) else (some ((-1), u1))
set_option maxHeartbeats 4000000 in
theorem ct_X0_weave (self : Nat) (p0 : Int32) (p1 : Int32) (p2 : Int32) (t_self : kd self = 0) : zMet yX0_weave cX0_weave 8 (some .int) 10 252 rvI (obT) [.ref self, .int p0, .int p1, .int p2] (f_X0_weave self p0 p1 p2) := by
  refine zMet_of (A := [(0, .ref self), (1, .int p0), (2, .int p1), (3, .int p2)]) (B := []) (ini := false) RX0 rfl (by decide +kernel) (fun h => by cases h) (by simp [lg_sl, Value.category]) (by simp [lv_args, Value.category]) rfl (by simp [lv_args, Value.category]) fun u => ?_
  unfold f_X0_weave
  refine go_aload_n (pc := 0) (j := 0) (i := 0) dX0_weave_0 rfl rfl ?_
  refine go_iload_n (pc := 1) (j := 1) (i := 1) dX0_weave_1 rfl rfl ?_
  refine go_iload_n (pc := 2) (j := 2) (i := 2) dX0_weave_2 rfl rfl ?_
  refine go_iload_n (pc := 3) (j := 3) (i := 3) dX0_weave_3 rfl rfl ?_
  refine go_callVI (pc := 4) (ci := 0) (ct_X0_bar self p0 p1 p2 t_self) lk_X0_417 rfl rfl rfl (by decide) t_self ⟨by decide, by decide⟩ (Nat.le_of_ble_eq_true rfl) dX0_weave_4 rfl fun v1 u1 => ?_
  refine go_if_ne (pc := 7) (tgt := 30) dX0_weave_7 (by decide) (fun h1 => ?_) (fun h1 => ?_)
  · refine go_aload_n (pc := 10) (j := 0) (i := 0) dX0_weave_10 rfl rfl ?_
    refine go_getI (pc := 11) (n := self) (ci := 0) (k := 18) fa_X0_126_0 t_self rfl dX0_weave_11 ?_
    refine go_sipush (pc := 14) (v := 200) dX0_weave_14 (by decide) ?_
    refine go_icmp_eq (pc := 17) (tgt := 30) dX0_weave_17 (by decide) (fun h2 => ?_) (fun h2 => ?_)
    · refine go_iconst (pc := 30) (v := (-1)) dX0_weave_30 (by decide) ?_
      exact go_ireturn (pc := 31) rfl dX0_weave_31
    · refine go_aload_n (pc := 20) (j := 0) (i := 0) dX0_weave_20 rfl rfl ?_
      refine go_getI (pc := 21) (n := self) (ci := 0) (k := 14) fa_X0_151_0 t_self rfl dX0_weave_21 ?_
      refine go_sipush (pc := 24) (v := 156) dX0_weave_24 (by decide) ?_
      refine go_icmp_ne (pc := 27) (tgt := 32) dX0_weave_27 (by decide) (fun h3 => ?_) (fun h3 => ?_)
      · refine go_iconst (pc := 30) (v := (-1)) dX0_weave_30 (by decide) ?_
        exact go_ireturn (pc := 31) rfl dX0_weave_31
      · refine go_aload_n (pc := 32) (j := 0) (i := 0) dX0_weave_32 rfl rfl ?_
        refine go_getR (pc := 33) (n := self) (ci := 0) (k := 1) (t := 18) fa_X0_30_0 t_self rfl dX0_weave_33 fun r1 t_r1 => ?_
        refine go_iload_n (pc := 36) (j := 1) (i := 1) dX0_weave_36 rfl rfl ?_
        refine go_oB fun n1 e_n1 => ?_
        have t_n1 := t_r1 n1 e_n1
        subst e_n1
        refine go_aald (pc := 37) (n := n1) (ci := 18) (t := 5) (by decide) (by decide) t_n1 rfl dX0_weave_37 fun r2 t_r2 => ?_
        refine go_astoreQ (pc := 38) (r := r2) (i := 4) (A' := [(0, .ref self), (1, .int p0), (2, .int p1), (3, .int p2), (4, va_rf r2)]) (by decide) rfl rfl rfl dX0_weave_38 ?_
        refine go_aload_n (pc := 40) (j := 0) (i := 0) dX0_weave_40 rfl rfl ?_
        refine go_getR (pc := 41) (n := self) (ci := 0) (k := 2) (t := 19) fa_X0_36_0 t_self rfl dX0_weave_41 fun r3 t_r3 => ?_
        refine go_iload_n (pc := 44) (j := 2) (i := 2) dX0_weave_44 rfl rfl ?_
        refine go_oB fun n2 e_n2 => ?_
        have t_n2 := t_r3 n2 e_n2
        subst e_n2
        refine go_aald (pc := 45) (n := n2) (ci := 19) (t := 8) (by decide) (by decide) t_n2 rfl dX0_weave_45 fun r4 t_r4 => ?_
        refine go_astoreQ (pc := 46) (r := r4) (i := 5) (A' := [(0, .ref self), (1, .int p0), (2, .int p1), (3, .int p2), (4, va_rf r2), (5, va_rf r4)]) (by decide) rfl rfl rfl dX0_weave_46 ?_
        refine go_aload_n (pc := 48) (j := 0) (i := 0) dX0_weave_48 rfl rfl ?_
        refine go_iconst (pc := 49) (v := 4) dX0_weave_49 (by decide) ?_
        refine go_aloadQ (pc := 50) (r := r4) (i := 5) dX0_weave_50 rfl ?_
        refine go_aloadQ (pc := 52) (r := r2) (i := 4) dX0_weave_52 rfl ?_
        refine go_iload_n (pc := 54) (j := 3) (i := 3) dX0_weave_54 rfl rfl ?_
        refine go_oB fun n3 e_n3 => ?_
        have t_n3 := t_r2 n3 e_n3
        subst e_n3
        refine go_oB fun n4 e_n4 => ?_
        have t_n4 := t_r4 n4 e_n4
        subst e_n4
        refine go_callVI (pc := 55) (ci := 0) (ct_X0_asksLot self 4 n4 n3 p2 t_self t_n4 t_n3) lk_X0_402 rfl rfl rfl (by decide) t_self ⟨by decide, by decide⟩ (Nat.le_of_ble_eq_true rfl) dX0_weave_55 rfl fun v2 u2 => ?_
        refine go_join1 (pcx := 66) (α1 := Int32) (fun z1 => [(0, .ref self), (3, .int p2), (4, .ref n3), (5, .ref n4)]) (fun z1 => []) (fun z1 => [.int z1]) (fun z1 => True) (fun z1 u3 _ => ?_) (fun j1 hj1 => ?_)
        · refine go_istore (pc := 66) (i := 6) (A' := [(0, .ref self), (3, .int p2), (4, .ref n3), (5, .ref n4), (6, .int z1)]) (by decide) rfl rfl rfl dX0_weave_66 ?_
          refine go_iconst (pc := 68) (v := 0) dX0_weave_68 (by decide) ?_
          refine go_aload_n (pc := 69) (j := 0) (i := 0) dX0_weave_69 rfl rfl ?_
          refine go_iconst (pc := 70) (v := 1) dX0_weave_70 (by decide) ?_
          refine go_aload (pc := 71) (i := 5) dX0_weave_71 rfl ?_
          refine go_aload (pc := 73) (i := 4) dX0_weave_73 rfl ?_
          refine go_iload_n (pc := 75) (j := 3) (i := 3) dX0_weave_75 rfl rfl ?_
          refine go_callVI (pc := 76) (ci := 0) (ct_X0_asksLot self 1 n4 n3 p2 t_self t_n4 t_n3) lk_X0_402 rfl rfl rfl (by decide) t_self ⟨by decide, by decide⟩ (Nat.le_of_ble_eq_true rfl) dX0_weave_76 rfl fun v3 u4 => ?_
          refine go_mmaxI (pc := 79) dX0_weave_79 q672 q584 q102 q585 (by decide) (Nat.le_of_ble_eq_true rfl) ?_
          refine go_istore (pc := 82) (i := 7) (A' := [(0, .ref self), (3, .int p2), (4, .ref n3), (5, .ref n4), (6, .int z1), (7, .int (if 0 < v3 then v3 else 0))]) (by decide) rfl rfl rfl dX0_weave_82 ?_
          refine go_aload (pc := 84) (i := 5) dX0_weave_84 rfl ?_
          refine go_getR (pc := 86) (n := n4) (ci := 8) (k := 0) (t := 5) fa_X0_321_8 t_n4 rfl dX0_weave_86 fun r5 t_r5 => ?_
          refine go_oB fun n5 e_n5 => ?_
          have t_n5 := t_r5 n5 e_n5
          subst e_n5
          refine go_dupA (pc := 89) dX0_weave_89 ?_
          refine go_getI (pc := 90) (n := n5) (ci := 5) (k := 6) fa_X0_177_5 t_n5 rfl dX0_weave_90 ?_
          refine go_iload (pc := 93) (i := 7) dX0_weave_93 rfl ?_
          refine go_isub (pc := 95) dX0_weave_95 ?_
          refine go_putI (pc := 96) (n := n5) (ci := 5) (k := 6) (v := ((mI u4 n5 6) - (if 0 < v3 then v3 else 0))) pa_X0_177_5 (fun h => by cases h) t_n5 rfl zKeep_int dX0_weave_96 fun u5 => ?_
          refine go_aload (pc := 99) (i := 4) dX0_weave_99 rfl ?_
          refine go_dupA (pc := 101) dX0_weave_101 ?_
          refine go_getI (pc := 102) (n := n3) (ci := 5) (k := 6) fa_X0_177_5 t_n3 rfl dX0_weave_102 ?_
          refine go_iload (pc := 105) (i := 7) dX0_weave_105 rfl ?_
          refine go_iadd (pc := 107) dX0_weave_107 ?_
          refine go_putI (pc := 108) (n := n3) (ci := 5) (k := 6) (v := ((mI u5 n3 6) + (if 0 < v3 then v3 else 0))) pa_X0_177_5 (fun h => by cases h) t_n3 rfl zKeep_int dX0_weave_108 fun u6 => ?_
          refine go_aload (pc := 111) (i := 5) dX0_weave_111 rfl ?_
          refine go_dupA (pc := 113) dX0_weave_113 ?_
          refine go_getI (pc := 114) (n := n4) (ci := 8) (k := 6) fa_X0_308_8 t_n4 rfl dX0_weave_114 ?_
          refine go_iload_n (pc := 117) (j := 3) (i := 3) dX0_weave_117 rfl rfl ?_
          refine go_isub (pc := 118) dX0_weave_118 ?_
          refine go_putI (pc := 119) (n := n4) (ci := 8) (k := 6) (v := ((mI u6 n4 6) - p2)) pa_X0_308_8 (fun h => by cases h) t_n4 rfl zKeep_int dX0_weave_119 fun u7 => ?_
          refine go_aload (pc := 122) (i := 4) dX0_weave_122 rfl ?_
          refine go_getR (pc := 124) (n := n3) (ci := 5) (k := 15) (t := 6) fa_X0_161_5 t_n3 rfl dX0_weave_124 fun r6 t_r6 => ?_
          refine go_oB fun n6 e_n6 => ?_
          have t_n6 := t_r6 n6 e_n6
          subst e_n6
          refine go_dupA (pc := 127) dX0_weave_127 ?_
          refine go_getI (pc := 128) (n := n6) (ci := 6) (k := 3) fa_X0_227_6 t_n6 rfl dX0_weave_128 ?_
          refine go_iload_n (pc := 131) (j := 3) (i := 3) dX0_weave_131 rfl rfl ?_
          refine go_iadd (pc := 132) dX0_weave_132 ?_
          refine go_putI (pc := 133) (n := n6) (ci := 6) (k := 3) (v := ((mI u7 n6 3) + p2)) pa_X0_227_6 (fun h => by cases h) t_n6 rfl zKeep_int dX0_weave_133 fun u8 => ?_
          refine go_aload_n (pc := 136) (j := 0) (i := 0) dX0_weave_136 rfl rfl ?_
          refine go_dupA (pc := 137) dX0_weave_137 ?_
          refine go_getI (pc := 138) (n := self) (ci := 0) (k := 24) fa_X0_314_0 t_self rfl dX0_weave_138 ?_
          refine go_iload_n (pc := 141) (j := 3) (i := 3) dX0_weave_141 rfl rfl ?_
          refine go_iadd (pc := 142) dX0_weave_142 ?_
          refine go_putI (pc := 143) (n := self) (ci := 0) (k := 24) (v := ((mI u8 self 24) + p2)) pa_X0_314_0 (fun h => by cases h) t_self rfl zKeep_int dX0_weave_143 fun u9 => ?_
          refine go_aload_n (pc := 146) (j := 0) (i := 0) dX0_weave_146 rfl rfl ?_
          refine go_getR (pc := 147) (n := self) (ci := 0) (k := 3) (t := 20) fa_X0_42_0 t_self rfl dX0_weave_147 fun r7 t_r7 => ?_
          refine go_aload_n (pc := 150) (j := 0) (i := 0) dX0_weave_150 rfl rfl ?_
          refine go_getI (pc := 151) (n := self) (ci := 0) (k := 18) fa_X0_126_0 t_self rfl dX0_weave_151 ?_
          refine go_new (pc := 154) (ci := 12) (σ := 12) (N := 6) na_X0_40 (by decide) (by decide) rfl dX0_weave_154 fun n7 u10 t_n7 => ?_
          refine go_dupA (pc := 157) dX0_weave_157 ?_
          refine go_aload (pc := 158) (i := 5) dX0_weave_158 rfl ?_
          refine go_aload (pc := 160) (i := 4) dX0_weave_160 rfl ?_
          refine go_aload_n (pc := 162) (j := 0) (i := 0) dX0_weave_162 rfl rfl ?_
          refine go_getI (pc := 163) (n := self) (ci := 0) (k := 14) fa_X0_151_0 t_self rfl dX0_weave_163 ?_
          refine go_iload_n (pc := 166) (j := 3) (i := 3) dX0_weave_166 rfl rfl ?_
          refine go_iload (pc := 167) (i := 6) dX0_weave_167 rfl ?_
          refine go_callI (pc := 169) (ct_X12_init n7 n4 n3 (mI u10 self 14) p2 z1 t_n7 t_n4 t_n3) lk_X0_421 rfl ⟨by decide, by decide⟩ (by simp [cat_rf, cat_int, cat_ref, cat_long]) dX0_weave_169 rfl fun v4 u11 => ?_
          refine go_oB fun n8 e_n8 => ?_
          have t_n8 := t_r7 n8 e_n8
          subst e_n8
          refine go_aast (pc := 172) (ci := 20) (ck := 12) (C := RX12) (T := TX12) (N := 6) (by decide) (by decide) t_n8 t_n7 (by decide) rfl rfl rfl dX0_weave_172 fun u12 => ?_
          refine go_aload_n (pc := 173) (j := 0) (i := 0) dX0_weave_173 rfl rfl ?_
          refine go_dupA (pc := 174) dX0_weave_174 ?_
          refine go_getI (pc := 175) (n := self) (ci := 0) (k := 18) fa_X0_126_0 t_self rfl dX0_weave_175 ?_
          refine go_iconst (pc := 178) (v := 1) dX0_weave_178 (by decide) ?_
          refine go_iadd (pc := 179) dX0_weave_179 ?_
          refine go_putI (pc := 180) (n := self) (ci := 0) (k := 18) (v := ((mI u12 self 18) + 1)) pa_X0_126_0 (fun h => by cases h) t_self rfl zKeep_int dX0_weave_180 fun u13 => ?_
          refine go_aload_n (pc := 183) (j := 0) (i := 0) dX0_weave_183 rfl rfl ?_
          refine go_getI (pc := 184) (n := self) (ci := 0) (k := 18) fa_X0_126_0 t_self rfl dX0_weave_184 ?_
          refine go_iconst (pc := 187) (v := 1) dX0_weave_187 (by decide) ?_
          refine go_isub (pc := 188) dX0_weave_188 ?_
          exact go_ireturn (pc := 189) rfl dX0_weave_189
        · refine go_if_eq (pc := 58) (tgt := 65) dX0_weave_58 (by decide) (fun h4 => ?_) (fun h4 => ?_)
          · refine go_iconst (pc := 65) (v := 0) dX0_weave_65 (by decide) ?_
            exact go_weak (A' := [(0, .ref self), (3, .int p2), (4, .ref n3), (5, .ref n4)]) (B' := []) ⟨rfl, rfl, rfl, rfl, trivial⟩ rfl (fun q h => by cases h) (hj1 0 u2 trivial)
          · refine go_iconst (pc := 61) (v := 1) dX0_weave_61 (by decide) ?_
            refine go_goto (pc := 62) (tgt := 66) dX0_weave_62 (by decide) ?_
            exact go_weak (A' := [(0, .ref self), (3, .int p2), (4, .ref n3), (5, .ref n4)]) (B' := []) ⟨rfl, rfl, rfl, rfl, trivial⟩ rfl (fun q h => by cases h) (hj1 1 u2 trivial)
  · refine go_iconst (pc := 30) (v := (-1)) dX0_weave_30 (by decide) ?_
    exact go_ireturn (pc := 31) rfl dX0_weave_31

def f_X0_findCloth (self : Nat) (p0 : Int32) (u : zM) : Option (Option Nat × zM) := bd (f_X0_in p0 0 ((mI u self 18) - 1) u) fun v1 u1 => if v1 = 0 then (some (none, u1)) else (lt (mR u1 self 3) fun r1 => oB r1 fun n1 => ix p0 (mN u1 n1) (lt (mR u1 n1 (xN p0)) fun r2 => some (r2, u1)))
set_option maxHeartbeats 4000000 in
theorem ct_X0_findCloth (self : Nat) (p0 : Int32) (t_self : kd self = 0) : zMet yX0_findCloth cX0_findCloth 2 (some (.object "WheelLand$Cloth")) 2 22 rvR (obR 12) [.ref self, .int p0] (f_X0_findCloth self p0) := by
  refine zMet_of (A := [(0, .ref self), (1, .int p0)]) (B := []) (ini := false) RX0 rfl (by decide +kernel) (fun h => by cases h) (by simp [lg_sl, Value.category]) (by simp [lv_args, Value.category]) rfl (by simp [lv_args, Value.category]) fun u => ?_
  unfold f_X0_findCloth
  refine go_iload_n (pc := 0) (j := 1) (i := 1) dX0_findCloth_0 rfl rfl ?_
  refine go_iconst (pc := 1) (v := 0) dX0_findCloth_1 (by decide) ?_
  refine go_aload_n (pc := 2) (j := 0) (i := 0) dX0_findCloth_2 rfl rfl ?_
  refine go_getI (pc := 3) (n := self) (ci := 0) (k := 18) fa_X0_126_0 t_self rfl dX0_findCloth_3 ?_
  refine go_iconst (pc := 6) (v := 1) dX0_findCloth_6 (by decide) ?_
  refine go_isub (pc := 7) dX0_findCloth_7 ?_
  refine go_callSI (pc := 8) (ct_X0_in p0 0 ((mI u self 18) - 1)) lk_X0_116 rfl ⟨by decide, by decide⟩ (Nat.le_of_ble_eq_true rfl) dX0_findCloth_8 rfl fun v1 u1 => ?_
  refine go_if_eq (pc := 11) (tgt := 23) dX0_findCloth_11 (by decide) (fun h1 => ?_) (fun h1 => ?_)
  · refine go_null (pc := 23) dX0_findCloth_23 ?_
    exact go_areturnQ (pc := 24) (r := none) rfl (Or.inl ⟨_, rfl⟩) (fun n h => by cases h) dX0_findCloth_24
  · refine go_aload_n (pc := 14) (j := 0) (i := 0) dX0_findCloth_14 rfl rfl ?_
    refine go_getR (pc := 15) (n := self) (ci := 0) (k := 3) (t := 20) fa_X0_42_0 t_self rfl dX0_findCloth_15 fun r1 t_r1 => ?_
    refine go_iload_n (pc := 18) (j := 1) (i := 1) dX0_findCloth_18 rfl rfl ?_
    refine go_oB fun n1 e_n1 => ?_
    have t_n1 := t_r1 n1 e_n1
    subst e_n1
    refine go_aald (pc := 19) (n := n1) (ci := 20) (t := 12) (by decide) (by decide) t_n1 rfl dX0_findCloth_19 fun r2 t_r2 => ?_
    refine go_goto (pc := 20) (tgt := 24) dX0_findCloth_20 (by decide) ?_
    exact go_areturnQ (pc := 24) (r := r2) rfl (Or.inl ⟨_, rfl⟩) t_r2 dX0_findCloth_24

def f_X0_cloth (self : Nat) (p0 : Int32) (p1 : Int32) (u : zM) : Option (Int32 × zM) := bd (f_X0_findCloth self p0 u) fun v1 u1 => oC v1 (some ((-1), u1)) fun n1 => if p1 = 0 then (lt (mR u1 n1 2) fun r1 => oB r1 fun n2 => some ((mI u1 n2 2), u1)) else (if p1 = 1 then (lt (mR u1 n1 0) fun r2 => oB r2 fun n3 => some ((mI u1 n3 0), u1)) else (if p1 = 2 then (some ((mI u1 n1 1), u1)) else (if p1 = 3 then (some ((mI u1 n1 3), u1)) else (if p1 = 4 then (if (mI u1 n1 4) = 0 then (some (0, u1)) else (some (1, u1))) else (if p1 = 5 then (lt (mR u1 n1 2) fun r3 => oB r3 fun n4 => lt (mR u1 n4 0) fun r4 => oB r4 fun n5 => some ((mI u1 n5 0), u1)) else (if p1 = 6 then (lt (mR u1 n1 2) fun r5 => oB r5 fun n6 => some ((mI u1 n6 1), u1)) else (if p1 = 7 then (lt (mR u1 n1 5) fun r6 => oC r6 (some ((-1), u1)) fun n7 => lt (mR u1 n1 5) fun r7 => oB r7 fun n8 => some ((mI u1 n8 0), u1)) else (some ((-1), u1)))))))))
set_option maxHeartbeats 4000000 in
theorem ct_X0_cloth (self : Nat) (p0 : Int32) (p1 : Int32) (t_self : kd self = 0) : zMet yX0_cloth cX0_cloth 4 (some .int) 3 43 rvI (obT) [.ref self, .int p0, .int p1] (f_X0_cloth self p0 p1) := by
  refine zMet_of (A := [(0, .ref self), (1, .int p0), (2, .int p1)]) (B := []) (ini := false) RX0 rfl (by decide +kernel) (fun h => by cases h) (by simp [lg_sl, Value.category]) (by simp [lv_args, Value.category]) rfl (by simp [lv_args, Value.category]) fun u => ?_
  unfold f_X0_cloth
  refine go_aload_n (pc := 0) (j := 0) (i := 0) dX0_cloth_0 rfl rfl ?_
  refine go_iload_n (pc := 1) (j := 1) (i := 1) dX0_cloth_1 rfl rfl ?_
  refine go_callVR (pc := 2) (ci := 0) (ct_X0_findCloth self p0 t_self) lk_X0_424 rfl rfl rfl (by decide) t_self ⟨by decide, by decide⟩ (Nat.le_of_ble_eq_true rfl) dX0_cloth_2 rfl fun v1 u1 t_v1 => ?_
  refine go_astore_nQ (pc := 5) (j := 3) (r := v1) (i := 3) (A' := [(0, .ref self), (1, .int p0), (2, .int p1), (3, va_rf v1)]) rfl (by decide) rfl rfl rfl dX0_cloth_5 ?_
  refine go_aload_nQ (pc := 6) (j := 3) (r := v1) (i := 3) dX0_cloth_6 rfl rfl ?_
  refine go_ifnonnull (pc := 7) (tgt := 12) dX0_cloth_7 (by decide) (fun e_n1 => ?_) (fun n1 e_n1 => ?_)
  · subst e_n1
    refine go_iconst (pc := 10) (v := (-1)) dX0_cloth_10 (by decide) ?_
    exact go_ireturn (pc := 11) rfl dX0_cloth_11
  · have t_n1 := t_v1 n1 e_n1
    subst e_n1
    refine go_iload_n (pc := 12) (j := 2) (i := 2) dX0_cloth_12 rfl rfl ?_
    refine go_if (fun h1 => ?_) (fun h1 => ?_)
    · refine go_tableIn (pc := 13) (tgt := 60) 0 h1 dX0_cloth_13 (by decide) (by decide) rfl (by decide) ?_
      refine go_aload_n (pc := 60) (j := 3) (i := 3) dX0_cloth_60 rfl rfl ?_
      refine go_getR (pc := 61) (n := n1) (ci := 12) (k := 2) (t := 8) fa_X0_428_12 t_n1 rfl dX0_cloth_61 fun r1 t_r1 => ?_
      refine go_oB fun n2 e_n2 => ?_
      have t_n2 := t_r1 n2 e_n2
      subst e_n2
      refine go_getI (pc := 64) (n := n2) (ci := 8) (k := 2) fa_X0_432_8 t_n2 rfl dX0_cloth_64 ?_
      exact go_ireturn (pc := 67) rfl dX0_cloth_67
    refine go_if (fun h2 => ?_) (fun h2 => ?_)
    · refine go_tableIn (pc := 13) (tgt := 68) 1 h2 dX0_cloth_13 (by decide) (by decide) rfl (by decide) ?_
      refine go_aload_n (pc := 68) (j := 3) (i := 3) dX0_cloth_68 rfl rfl ?_
      refine go_getR (pc := 69) (n := n1) (ci := 12) (k := 0) (t := 5) fa_X0_433_12 t_n1 rfl dX0_cloth_69 fun r2 t_r2 => ?_
      refine go_oB fun n3 e_n3 => ?_
      have t_n3 := t_r2 n3 e_n3
      subst e_n3
      refine go_getI (pc := 72) (n := n3) (ci := 5) (k := 0) fa_X0_325_5 t_n3 rfl dX0_cloth_72 ?_
      exact go_ireturn (pc := 75) rfl dX0_cloth_75
    refine go_if (fun h3 => ?_) (fun h3 => ?_)
    · refine go_tableIn (pc := 13) (tgt := 76) 2 h3 dX0_cloth_13 (by decide) (by decide) rfl (by decide) ?_
      refine go_aload_n (pc := 76) (j := 3) (i := 3) dX0_cloth_76 rfl rfl ?_
      refine go_getI (pc := 77) (n := n1) (ci := 12) (k := 1) fa_X0_434_12 t_n1 rfl dX0_cloth_77 ?_
      exact go_ireturn (pc := 80) rfl dX0_cloth_80
    refine go_if (fun h4 => ?_) (fun h4 => ?_)
    · refine go_tableIn (pc := 13) (tgt := 81) 3 h4 dX0_cloth_13 (by decide) (by decide) rfl (by decide) ?_
      refine go_aload_n (pc := 81) (j := 3) (i := 3) dX0_cloth_81 rfl rfl ?_
      refine go_getI (pc := 82) (n := n1) (ci := 12) (k := 3) fa_X0_435_12 t_n1 rfl dX0_cloth_82 ?_
      exact go_ireturn (pc := 85) rfl dX0_cloth_85
    refine go_if (fun h5 => ?_) (fun h5 => ?_)
    · refine go_tableIn (pc := 13) (tgt := 86) 4 h5 dX0_cloth_13 (by decide) (by decide) rfl (by decide) ?_
      refine go_aload_n (pc := 86) (j := 3) (i := 3) dX0_cloth_86 rfl rfl ?_
      refine go_getI (pc := 87) (n := n1) (ci := 12) (k := 4) fa_X0_438_12 t_n1 rfl dX0_cloth_87 ?_
      refine go_if_eq (pc := 90) (tgt := 97) dX0_cloth_90 (by decide) (fun h6 => ?_) (fun h6 => ?_)
      · refine go_iconst (pc := 97) (v := 0) dX0_cloth_97 (by decide) ?_
        exact go_ireturn (pc := 98) rfl dX0_cloth_98
      · refine go_iconst (pc := 93) (v := 1) dX0_cloth_93 (by decide) ?_
        refine go_goto (pc := 94) (tgt := 98) dX0_cloth_94 (by decide) ?_
        exact go_ireturn (pc := 98) rfl dX0_cloth_98
    refine go_if (fun h7 => ?_) (fun h7 => ?_)
    · refine go_tableIn (pc := 13) (tgt := 99) 5 h7 dX0_cloth_13 (by decide) (by decide) rfl (by decide) ?_
      refine go_aload_n (pc := 99) (j := 3) (i := 3) dX0_cloth_99 rfl rfl ?_
      refine go_getR (pc := 100) (n := n1) (ci := 12) (k := 2) (t := 8) fa_X0_428_12 t_n1 rfl dX0_cloth_100 fun r3 t_r3 => ?_
      refine go_oB fun n4 e_n4 => ?_
      have t_n4 := t_r3 n4 e_n4
      subst e_n4
      refine go_getR (pc := 103) (n := n4) (ci := 8) (k := 0) (t := 5) fa_X0_321_8 t_n4 rfl dX0_cloth_103 fun r4 t_r4 => ?_
      refine go_oB fun n5 e_n5 => ?_
      have t_n5 := t_r4 n5 e_n5
      subst e_n5
      refine go_getI (pc := 106) (n := n5) (ci := 5) (k := 0) fa_X0_325_5 t_n5 rfl dX0_cloth_106 ?_
      exact go_ireturn (pc := 109) rfl dX0_cloth_109
    refine go_if (fun h8 => ?_) (fun h8 => ?_)
    · refine go_tableIn (pc := 13) (tgt := 110) 6 h8 dX0_cloth_13 (by decide) (by decide) rfl (by decide) ?_
      refine go_aload_n (pc := 110) (j := 3) (i := 3) dX0_cloth_110 rfl rfl ?_
      refine go_getR (pc := 111) (n := n1) (ci := 12) (k := 2) (t := 8) fa_X0_428_12 t_n1 rfl dX0_cloth_111 fun r5 t_r5 => ?_
      refine go_oB fun n6 e_n6 => ?_
      have t_n6 := t_r5 n6 e_n6
      subst e_n6
      refine go_getI (pc := 114) (n := n6) (ci := 8) (k := 1) fa_X0_326_8 t_n6 rfl dX0_cloth_114 ?_
      exact go_ireturn (pc := 117) rfl dX0_cloth_117
    refine go_if (fun h9 => ?_) (fun h9 => ?_)
    · refine go_tableIn (pc := 13) (tgt := 118) 7 h9 dX0_cloth_13 (by decide) (by decide) rfl (by decide) ?_
      refine go_aload_n (pc := 118) (j := 3) (i := 3) dX0_cloth_118 rfl rfl ?_
      refine go_getR (pc := 119) (n := n1) (ci := 12) (k := 5) (t := 4) fa_X0_442_12 t_n1 rfl dX0_cloth_119 fun r6 t_r6 => ?_
      refine go_ifnonnull (pc := 122) (tgt := 129) dX0_cloth_122 (by decide) (fun e_n7 => ?_) (fun n7 e_n7 => ?_)
      · subst e_n7
        refine go_iconst (pc := 125) (v := (-1)) dX0_cloth_125 (by decide) ?_
        refine go_goto (pc := 126) (tgt := 136) dX0_cloth_126 (by decide) ?_
        exact go_ireturn (pc := 136) rfl dX0_cloth_136
      · have t_n7 := t_r6 n7 e_n7
        subst e_n7
        refine go_aload_n (pc := 129) (j := 3) (i := 3) dX0_cloth_129 rfl rfl ?_
        refine go_getR (pc := 130) (n := n1) (ci := 12) (k := 5) (t := 4) fa_X0_442_12 t_n1 rfl dX0_cloth_130 fun r7 t_r7 => ?_
        refine go_oB fun n8 e_n8 => ?_
        have t_n8 := t_r7 n8 e_n8
        subst e_n8
        refine go_getI (pc := 133) (n := n8) (ci := 4) (k := 0) fa_X0_144_4 t_n8 rfl dX0_cloth_133 ?_
        exact go_ireturn (pc := 136) rfl dX0_cloth_136
    refine go_tableD (pc := 13) (x := p1) (tgt := 137) dX0_cloth_13 (by decide) (fun a b => ?_) ?_
    · rcases (show Int32.toInt p1 = 0 ∨ Int32.toInt p1 = 1 ∨ Int32.toInt p1 = 2 ∨ Int32.toInt p1 = 3 ∨ Int32.toInt p1 = 4 ∨ Int32.toInt p1 = 5 ∨ Int32.toInt p1 = 6 ∨ Int32.toInt p1 = 7 by omega) with e | e | e | e | e | e | e | e
      · exact absurd (sw_eq (v := 0) (e.trans (by decide))) h1
      · exact absurd (sw_eq (v := 1) (e.trans (by decide))) h2
      · exact absurd (sw_eq (v := 2) (e.trans (by decide))) h3
      · exact absurd (sw_eq (v := 3) (e.trans (by decide))) h4
      · exact absurd (sw_eq (v := 4) (e.trans (by decide))) h5
      · exact absurd (sw_eq (v := 5) (e.trans (by decide))) h7
      · exact absurd (sw_eq (v := 6) (e.trans (by decide))) h8
      · exact absurd (sw_eq (v := 7) (e.trans (by decide))) h9
    · refine go_iconst (pc := 137) (v := (-1)) dX0_cloth_137 (by decide) ?_
      exact go_ireturn (pc := 138) rfl dX0_cloth_138

def f_X0_ask_L26 (x0 : Nat) (x2 : Nat) (k58 : zM → Option (Int32 × zM)) : Nat → Int32 → zM → Option (Int32 × zM)
  | 0, _, _ => none
  | n + 1, x3, u => lt (mR u x0 27) fun r2 => oB r2 fun n3 => if (mI u n3 5) ≤ x3 then (k58 u) else (lt (mR u x0 27) fun r3 => oB r3 fun n4 => lt (mR u n4 0) fun r4 => oB r4 fun n5 => ix x3 (mN u n5) (lt (mR u n5 (xN x3)) fun r5 => if r5 = (some x2) then (some ((-1), u)) else (f_X0_ask_L26 x0 x2 k58 n (x3 + 1) u)))
section
variable {c0 s0 : Nat} {tbv : List ExceptionTableEntry}
set_option maxHeartbeats 4000000 in
theorem g_X0_ask_L26 (x0 : Nat) (x2 : Nat) (k58 : zM → Option (Int32 × zM)) (t_x0 : kd x0 = 0) (t_x2 : kd x2 = 8) (hk58 : ∀ (u : zM), Go RX0 cX0_ask 4 (some .int) false 3 43 [] (obT) (zQ rvI) c0 s0 58 [(0, .ref x0), (2, .ref x2)] [] [] u (k58 u)) : ∀ (n : Nat) (x3 : Int32) (u : zM), Go RX0 cX0_ask 4 (some .int) false 3 43 [] (obT) (zQ rvI) c0 s0 26 [(0, .ref x0), (2, .ref x2), (3, .int x3)] [] [] u (f_X0_ask_L26 x0 x2 k58 n x3 u) := by
  intro n
  induction n with
  | zero => intros; exact go_none
  | succ n ih =>
    intro x3 u
    unfold f_X0_ask_L26
    refine go_iload_n (pc := 26) (j := 3) (i := 3) dX0_ask_26 rfl rfl ?_
    refine go_aload_n (pc := 27) (j := 0) (i := 0) dX0_ask_27 rfl rfl ?_
    refine go_getR (pc := 28) (n := x0) (ci := 0) (k := 27) (t := 2) fa_X0_90_0 t_x0 rfl dX0_ask_28 fun r2 t_r2 => ?_
    refine go_oB fun n3 e_n3 => ?_
    have t_n3 := t_r2 n3 e_n3
    subst e_n3
    refine go_getI (pc := 31) (n := n3) (ci := 2) (k := 5) fa_X0_445_2 t_n3 rfl dX0_ask_31 ?_
    refine go_icmp_ge (pc := 34) (tgt := 58) dX0_ask_34 (by decide) (fun h2 => ?_) (fun h2 => ?_)
    · exact go_weak (A' := [(0, .ref x0), (2, .ref x2)]) (B' := []) ⟨rfl, rfl, trivial⟩ rfl (fun q h => by cases h) (hk58 u)
    · refine go_aload_n (pc := 37) (j := 0) (i := 0) dX0_ask_37 rfl rfl ?_
      refine go_getR (pc := 38) (n := x0) (ci := 0) (k := 27) (t := 2) fa_X0_90_0 t_x0 rfl dX0_ask_38 fun r3 t_r3 => ?_
      refine go_oB fun n4 e_n4 => ?_
      have t_n4 := t_r3 n4 e_n4
      subst e_n4
      refine go_getR (pc := 41) (n := n4) (ci := 2) (k := 0) (t := 19) fa_X0_448_2 t_n4 rfl dX0_ask_41 fun r4 t_r4 => ?_
      refine go_iload_n (pc := 44) (j := 3) (i := 3) dX0_ask_44 rfl rfl ?_
      refine go_oB fun n5 e_n5 => ?_
      have t_n5 := t_r4 n5 e_n5
      subst e_n5
      refine go_aald (pc := 45) (n := n5) (ci := 19) (t := 8) (by decide) (by decide) t_n5 rfl dX0_ask_45 fun r5 t_r5 => ?_
      refine go_aload_n (pc := 46) (j := 2) (i := 2) dX0_ask_46 rfl rfl ?_
      refine go_acmp (pc := 47) (eq := false) (x := r5) (y := some x2) (k := 8) (tgt := 52) (by decide) t_r5 (fun n h => by cases h; exact t_x2) dX0_ask_47 (by decide) ?_ ?_
      · refine go_iconst (pc := 50) (v := (-1)) dX0_ask_50 (by decide) ?_
        exact go_ireturn (pc := 51) rfl dX0_ask_51
      · refine go_iinc (pc := 52) (i := 3) (w := 1) (A' := [(0, .ref x0), (2, .ref x2), (3, .int (x3 + 1))]) rfl (by decide) (by decide) rfl rfl rfl dX0_ask_52 ?_
        refine go_goto (pc := 55) (tgt := 26) dX0_ask_55 (by decide) ?_
        exact go_weak (A' := [(0, .ref x0), (2, .ref x2), (3, .int (x3 + 1))]) (B' := []) ⟨rfl, rfl, rfl, trivial⟩ rfl (fun q h => by cases h) (ih (x3 + 1) u)
end
def f_X0_ask (self : Nat) (p0 : Int32) (u : zM) : Option (Int32 × zM) := bd (f_X0_findLot self p0 u) fun v1 u1 => oC v1 (some ((-1), u1)) fun n1 => lt (mR u1 self 27) fun r1 => oB r1 fun n2 => if (mI u1 n2 5) = 6 then (some ((-1), u1)) else (f_X0_ask_L26 self n1 (fun u2 => lt (mR u2 self 27) fun r6 => oB r6 fun n6 => lt (mR u2 n6 0) fun r7 => lt (mR u2 self 27) fun r8 => oB r8 fun n7 => oB r7 fun n8 => ix (mI u2 n7 5) (mN u2 n8) (lt (sR u2 n8 (xN (mI u2 n7 5)) (some n1)) fun u3 => lt (mR u3 self 27) fun r9 => oB r9 fun n9 => lt (sI u3 n9 5 ((mI u3 n9 5) + 1)) fun u4 => lt (mR u4 self 27) fun r10 => oB r10 fun n10 => some ((mI u4 n10 5), u4))) zFu 0 u1)
set_option maxHeartbeats 4000000 in
theorem ct_X0_ask (self : Nat) (p0 : Int32) (t_self : kd self = 0) : zMet yX0_ask cX0_ask 4 (some .int) 3 43 rvI (obT) [.ref self, .int p0] (f_X0_ask self p0) := by
  refine zMet_of (A := [(0, .ref self), (1, .int p0)]) (B := []) (ini := false) RX0 rfl (by decide +kernel) (fun h => by cases h) (by simp [lg_sl, Value.category]) (by simp [lv_args, Value.category]) rfl (by simp [lv_args, Value.category]) fun u => ?_
  unfold f_X0_ask
  refine go_aload_n (pc := 0) (j := 0) (i := 0) dX0_ask_0 rfl rfl ?_
  refine go_iload_n (pc := 1) (j := 1) (i := 1) dX0_ask_1 rfl rfl ?_
  refine go_callVR (pc := 2) (ci := 0) (ct_X0_findLot self p0 t_self) lk_X0_317 rfl rfl rfl (by decide) t_self ⟨by decide, by decide⟩ (Nat.le_of_ble_eq_true rfl) dX0_ask_2 rfl fun v1 u1 t_v1 => ?_
  refine go_astore_nQ (pc := 5) (j := 2) (r := v1) (i := 2) (A' := [(0, .ref self), (1, .int p0), (2, va_rf v1)]) rfl (by decide) rfl rfl rfl dX0_ask_5 ?_
  refine go_aload_nQ (pc := 6) (j := 2) (r := v1) (i := 2) dX0_ask_6 rfl rfl ?_
  refine go_ifnull (pc := 7) (tgt := 22) dX0_ask_7 (by decide) (fun e_n1 => ?_) (fun n1 e_n1 => ?_)
  · subst e_n1
    refine go_iconst (pc := 22) (v := (-1)) dX0_ask_22 (by decide) ?_
    exact go_ireturn (pc := 23) rfl dX0_ask_23
  · have t_n1 := t_v1 n1 e_n1
    subst e_n1
    refine go_aload_n (pc := 10) (j := 0) (i := 0) dX0_ask_10 rfl rfl ?_
    refine go_getR (pc := 11) (n := self) (ci := 0) (k := 27) (t := 2) fa_X0_90_0 t_self rfl dX0_ask_11 fun r1 t_r1 => ?_
    refine go_oB fun n2 e_n2 => ?_
    have t_n2 := t_r1 n2 e_n2
    subst e_n2
    refine go_getI (pc := 14) (n := n2) (ci := 2) (k := 5) fa_X0_445_2 t_n2 rfl dX0_ask_14 ?_
    refine go_bipush (pc := 17) (v := 6) dX0_ask_17 (by decide) ?_
    refine go_icmp_ne (pc := 19) (tgt := 24) dX0_ask_19 (by decide) (fun h1 => ?_) (fun h1 => ?_)
    · refine go_iconst (pc := 22) (v := (-1)) dX0_ask_22 (by decide) ?_
      exact go_ireturn (pc := 23) rfl dX0_ask_23
    · refine go_iconst (pc := 24) (v := 0) dX0_ask_24 (by decide) ?_
      refine go_istore_n (pc := 25) (j := 3) (i := 3) (A' := [(0, .ref self), (1, .int p0), (2, .ref n1), (3, .int 0)]) rfl (by decide) rfl rfl rfl dX0_ask_25 ?_
      refine go_weak (A' := [(0, .ref self), (2, .ref n1), (3, .int 0)]) (B' := []) ⟨rfl, rfl, rfl, trivial⟩ rfl (fun q h => by cases h) (g_X0_ask_L26 self n1 _ t_self t_n1 ?_ zFu 0 u1)
      · intro u2
        refine go_aload_n (pc := 58) (j := 0) (i := 0) dX0_ask_58 rfl rfl ?_
        refine go_getR (pc := 59) (n := self) (ci := 0) (k := 27) (t := 2) fa_X0_90_0 t_self rfl dX0_ask_59 fun r6 t_r6 => ?_
        refine go_oB fun n6 e_n6 => ?_
        have t_n6 := t_r6 n6 e_n6
        subst e_n6
        refine go_getR (pc := 62) (n := n6) (ci := 2) (k := 0) (t := 19) fa_X0_448_2 t_n6 rfl dX0_ask_62 fun r7 t_r7 => ?_
        refine go_aload_n (pc := 65) (j := 0) (i := 0) dX0_ask_65 rfl rfl ?_
        refine go_getR (pc := 66) (n := self) (ci := 0) (k := 27) (t := 2) fa_X0_90_0 t_self rfl dX0_ask_66 fun r8 t_r8 => ?_
        refine go_oB fun n7 e_n7 => ?_
        have t_n7 := t_r8 n7 e_n7
        subst e_n7
        refine go_getI (pc := 69) (n := n7) (ci := 2) (k := 5) fa_X0_445_2 t_n7 rfl dX0_ask_69 ?_
        refine go_aload_n (pc := 72) (j := 2) (i := 2) dX0_ask_72 rfl rfl ?_
        refine go_oB fun n8 e_n8 => ?_
        have t_n8 := t_r7 n8 e_n8
        subst e_n8
        refine go_aast (pc := 73) (ci := 19) (ck := 8) (C := RX8) (T := TX8) (N := 7) (by decide) (by decide) t_n8 t_n1 (by decide) rfl rfl rfl dX0_ask_73 fun u3 => ?_
        refine go_aload_n (pc := 74) (j := 0) (i := 0) dX0_ask_74 rfl rfl ?_
        refine go_getR (pc := 75) (n := self) (ci := 0) (k := 27) (t := 2) fa_X0_90_0 t_self rfl dX0_ask_75 fun r9 t_r9 => ?_
        refine go_oB fun n9 e_n9 => ?_
        have t_n9 := t_r9 n9 e_n9
        subst e_n9
        refine go_dupA (pc := 78) dX0_ask_78 ?_
        refine go_getI (pc := 79) (n := n9) (ci := 2) (k := 5) fa_X0_445_2 t_n9 rfl dX0_ask_79 ?_
        refine go_iconst (pc := 82) (v := 1) dX0_ask_82 (by decide) ?_
        refine go_iadd (pc := 83) dX0_ask_83 ?_
        refine go_putI (pc := 84) (n := n9) (ci := 2) (k := 5) (v := ((mI u3 n9 5) + 1)) pa_X0_445_2 (fun h => by cases h) t_n9 rfl zKeep_int dX0_ask_84 fun u4 => ?_
        refine go_aload_n (pc := 87) (j := 0) (i := 0) dX0_ask_87 rfl rfl ?_
        refine go_getR (pc := 88) (n := self) (ci := 0) (k := 27) (t := 2) fa_X0_90_0 t_self rfl dX0_ask_88 fun r10 t_r10 => ?_
        refine go_oB fun n10 e_n10 => ?_
        have t_n10 := t_r10 n10 e_n10
        subst e_n10
        refine go_getI (pc := 91) (n := n10) (ci := 2) (k := 5) fa_X0_445_2 t_n10 rfl dX0_ask_91 ?_
        exact go_ireturn (pc := 94) rfl dX0_ask_94

def f_X0_clear (self : Nat) (u : zM) : Option (Int32 × zM) := lt (mR u self 27) fun r1 => oB r1 fun n1 => lt (mR u self 27) fun r2 => oB r2 fun n2 => lt (sI u n2 5 0) fun u1 => some ((mI u n1 5), u1)
set_option maxHeartbeats 4000000 in
theorem ct_X0_clear (self : Nat) (t_self : kd self = 0) : zMet yX0_clear cX0_clear 2 (some .int) 1 0 rvI (obT) [.ref self] (f_X0_clear self) := by
  refine zMet_of (A := [(0, .ref self)]) (B := []) (ini := false) RX0 rfl (by decide +kernel) (fun h => by cases h) (by simp [lg_sl, Value.category]) (by simp [lv_args, Value.category]) rfl (by simp [lv_args, Value.category]) fun u => ?_
  unfold f_X0_clear
  refine go_aload_n (pc := 0) (j := 0) (i := 0) dX0_clear_0 rfl rfl ?_
  refine go_getR (pc := 1) (n := self) (ci := 0) (k := 27) (t := 2) fa_X0_90_0 t_self rfl dX0_clear_1 fun r1 t_r1 => ?_
  refine go_oB fun n1 e_n1 => ?_
  have t_n1 := t_r1 n1 e_n1
  subst e_n1
  refine go_getI (pc := 4) (n := n1) (ci := 2) (k := 5) fa_X0_445_2 t_n1 rfl dX0_clear_4 ?_
  refine go_istore_n (pc := 7) (j := 1) (i := 1) (A' := [(0, .ref self), (1, .int (mI u n1 5))]) rfl (by decide) rfl rfl rfl dX0_clear_7 ?_
  refine go_aload_n (pc := 8) (j := 0) (i := 0) dX0_clear_8 rfl rfl ?_
  refine go_getR (pc := 9) (n := self) (ci := 0) (k := 27) (t := 2) fa_X0_90_0 t_self rfl dX0_clear_9 fun r2 t_r2 => ?_
  refine go_iconst (pc := 12) (v := 0) dX0_clear_12 (by decide) ?_
  refine go_oB fun n2 e_n2 => ?_
  have t_n2 := t_r2 n2 e_n2
  subst e_n2
  refine go_putI (pc := 13) (n := n2) (ci := 2) (k := 5) (v := 0) pa_X0_445_2 (fun h => by cases h) t_n2 rfl zKeep_int dX0_clear_13 fun u1 => ?_
  refine go_iload_n (pc := 16) (j := 1) (i := 1) dX0_clear_16 rfl rfl ?_
  exact go_ireturn (pc := 17) rfl dX0_clear_17

def f_X0_hands (self : Nat) (p0 : Int32) (p1 : Int32) (u : zM) : Option (Int32 × zM) := lt (mR u self 27) fun r1 => oB r1 fun n1 => bd (f_X2_asks n1 p0 u) fun v1 u1 => if v1 = 0 then (some ((-1), u1)) else (lt (mR u1 self 27) fun r2 => oB r2 fun n2 => bd (f_X0_in p1 10 (9 + (mI u1 n2 5)) u1) fun v2 u2 => if v2 = 0 then (if p1 = 0 then (lt (mR u2 self 27) fun r3 => oB r3 fun n3 => some ((mI u2 n3 7), u2)) else (if p1 = 1 then (lt (mR u2 self 27) fun r4 => oB r4 fun n4 => some ((mI u2 n4 8), u2)) else (if p1 = 2 then (lt (mR u2 self 27) fun r5 => oB r5 fun n5 => some ((mI u2 n5 9), u2)) else (some ((-1), u2))))) else (lt (mR u2 self 27) fun r6 => oB r6 fun n6 => lt (mR u2 n6 3) fun r7 => oB r7 fun n7 => ix (p1 - 10) (mN u2 n7) (if (mI u2 n7 (xN (p1 - 10))) = (-1) then (some ((-1), u2)) else (lt (mR u2 self 27) fun r8 => oB r8 fun n8 => lt (mR u2 n8 1) fun r9 => lt (mR u2 self 27) fun r10 => oB r10 fun n9 => lt (mR u2 n9 3) fun r11 => oB r11 fun n10 => ix (p1 - 10) (mN u2 n10) (oB r9 fun n11 => ix (mI u2 n10 (xN (p1 - 10))) (mN u2 n11) (lt (mR u2 n11 (xN (mI u2 n10 (xN (p1 - 10))))) fun r12 => oB r12 fun n12 => some ((mI u2 n12 0), u2)))))))
set_option maxHeartbeats 4000000 in
theorem ct_X0_hands (self : Nat) (p0 : Int32) (p1 : Int32) (t_self : kd self = 0) : zMet yX0_hands cX0_hands 3 (some .int) 66 1672 rvI (obT) [.ref self, .int p0, .int p1] (f_X0_hands self p0 p1) := by
  refine zMet_of (A := [(0, .ref self), (1, .int p0), (2, .int p1)]) (B := []) (ini := false) RX0 rfl (by decide +kernel) (fun h => by cases h) (by simp [lg_sl, Value.category]) (by simp [lv_args, Value.category]) rfl (by simp [lv_args, Value.category]) fun u => ?_
  unfold f_X0_hands
  refine go_aload_n (pc := 0) (j := 0) (i := 0) dX0_hands_0 rfl rfl ?_
  refine go_getR (pc := 1) (n := self) (ci := 0) (k := 27) (t := 2) fa_X0_90_0 t_self rfl dX0_hands_1 fun r1 t_r1 => ?_
  refine go_iload_n (pc := 4) (j := 1) (i := 1) dX0_hands_4 rfl rfl ?_
  refine go_oB fun n1 e_n1 => ?_
  have t_n1 := t_r1 n1 e_n1
  subst e_n1
  refine go_callVI (pc := 5) (ci := 2) (ct_X2_asks n1 p0 t_n1) lk_X0_451 rfl rfl rfl (by decide) t_n1 ⟨by decide, by decide⟩ (Nat.le_of_ble_eq_true rfl) dX0_hands_5 rfl fun v1 u1 => ?_
  refine go_if_ne (pc := 8) (tgt := 13) dX0_hands_8 (by decide) (fun h1 => ?_) (fun h1 => ?_)
  · refine go_iconst (pc := 11) (v := (-1)) dX0_hands_11 (by decide) ?_
    exact go_ireturn (pc := 12) rfl dX0_hands_12
  · refine go_iload_n (pc := 13) (j := 2) (i := 2) dX0_hands_13 rfl rfl ?_
    refine go_bipush (pc := 14) (v := 10) dX0_hands_14 (by decide) ?_
    refine go_bipush (pc := 16) (v := 9) dX0_hands_16 (by decide) ?_
    refine go_aload_n (pc := 18) (j := 0) (i := 0) dX0_hands_18 rfl rfl ?_
    refine go_getR (pc := 19) (n := self) (ci := 0) (k := 27) (t := 2) fa_X0_90_0 t_self rfl dX0_hands_19 fun r2 t_r2 => ?_
    refine go_oB fun n2 e_n2 => ?_
    have t_n2 := t_r2 n2 e_n2
    subst e_n2
    refine go_getI (pc := 22) (n := n2) (ci := 2) (k := 5) fa_X0_445_2 t_n2 rfl dX0_hands_22 ?_
    refine go_iadd (pc := 25) dX0_hands_25 ?_
    refine go_callSI (pc := 26) (ct_X0_in p1 10 (9 + (mI u1 n2 5))) lk_X0_116 rfl ⟨by decide, by decide⟩ (Nat.le_of_ble_eq_true rfl) dX0_hands_26 rfl fun v2 u2 => ?_
    refine go_if_eq (pc := 29) (tgt := 76) dX0_hands_29 (by decide) (fun h2 => ?_) (fun h2 => ?_)
    · refine go_iload_n (pc := 76) (j := 2) (i := 2) dX0_hands_76 rfl rfl ?_
      refine go_if (fun h3 => ?_) (fun h3 => ?_)
      · refine go_tableIn (pc := 77) (tgt := 104) 0 h3 dX0_hands_77 (by decide) (by decide) rfl (by decide) ?_
        refine go_aload_n (pc := 104) (j := 0) (i := 0) dX0_hands_104 rfl rfl ?_
        refine go_getR (pc := 105) (n := self) (ci := 0) (k := 27) (t := 2) fa_X0_90_0 t_self rfl dX0_hands_105 fun r3 t_r3 => ?_
        refine go_oB fun n3 e_n3 => ?_
        have t_n3 := t_r3 n3 e_n3
        subst e_n3
        refine go_getI (pc := 108) (n := n3) (ci := 2) (k := 7) fa_X0_459_2 t_n3 rfl dX0_hands_108 ?_
        exact go_ireturn (pc := 111) rfl dX0_hands_111
      refine go_if (fun h4 => ?_) (fun h4 => ?_)
      · refine go_tableIn (pc := 77) (tgt := 112) 1 h4 dX0_hands_77 (by decide) (by decide) rfl (by decide) ?_
        refine go_aload_n (pc := 112) (j := 0) (i := 0) dX0_hands_112 rfl rfl ?_
        refine go_getR (pc := 113) (n := self) (ci := 0) (k := 27) (t := 2) fa_X0_90_0 t_self rfl dX0_hands_113 fun r4 t_r4 => ?_
        refine go_oB fun n4 e_n4 => ?_
        have t_n4 := t_r4 n4 e_n4
        subst e_n4
        refine go_getI (pc := 116) (n := n4) (ci := 2) (k := 8) fa_X0_462_2 t_n4 rfl dX0_hands_116 ?_
        exact go_ireturn (pc := 119) rfl dX0_hands_119
      refine go_if (fun h5 => ?_) (fun h5 => ?_)
      · refine go_tableIn (pc := 77) (tgt := 120) 2 h5 dX0_hands_77 (by decide) (by decide) rfl (by decide) ?_
        refine go_aload_n (pc := 120) (j := 0) (i := 0) dX0_hands_120 rfl rfl ?_
        refine go_getR (pc := 121) (n := self) (ci := 0) (k := 27) (t := 2) fa_X0_90_0 t_self rfl dX0_hands_121 fun r5 t_r5 => ?_
        refine go_oB fun n5 e_n5 => ?_
        have t_n5 := t_r5 n5 e_n5
        subst e_n5
        refine go_getI (pc := 124) (n := n5) (ci := 2) (k := 9) fa_X0_465_2 t_n5 rfl dX0_hands_124 ?_
        exact go_ireturn (pc := 127) rfl dX0_hands_127
      refine go_tableD (pc := 77) (x := p1) (tgt := 128) dX0_hands_77 (by decide) (fun a b => ?_) ?_
      · rcases (show Int32.toInt p1 = 0 ∨ Int32.toInt p1 = 1 ∨ Int32.toInt p1 = 2 by omega) with e | e | e
        · exact absurd (sw_eq (v := 0) (e.trans (by decide))) h3
        · exact absurd (sw_eq (v := 1) (e.trans (by decide))) h4
        · exact absurd (sw_eq (v := 2) (e.trans (by decide))) h5
      · refine go_iconst (pc := 128) (v := (-1)) dX0_hands_128 (by decide) ?_
        exact go_ireturn (pc := 129) rfl dX0_hands_129
    · refine go_aload_n (pc := 32) (j := 0) (i := 0) dX0_hands_32 rfl rfl ?_
      refine go_getR (pc := 33) (n := self) (ci := 0) (k := 27) (t := 2) fa_X0_90_0 t_self rfl dX0_hands_33 fun r6 t_r6 => ?_
      refine go_oB fun n6 e_n6 => ?_
      have t_n6 := t_r6 n6 e_n6
      subst e_n6
      refine go_getR (pc := 36) (n := n6) (ci := 2) (k := 3) (t := 13) fa_X0_453_2 t_n6 rfl dX0_hands_36 fun r7 t_r7 => ?_
      refine go_iload_n (pc := 39) (j := 2) (i := 2) dX0_hands_39 rfl rfl ?_
      refine go_bipush (pc := 40) (v := 10) dX0_hands_40 (by decide) ?_
      refine go_isub (pc := 42) dX0_hands_42 ?_
      refine go_oB fun n7 e_n7 => ?_
      have t_n7 := t_r7 n7 e_n7
      subst e_n7
      refine go_iald (pc := 43) t_n7 dX0_hands_43 ?_
      refine go_iconst (pc := 44) (v := (-1)) dX0_hands_44 (by decide) ?_
      refine go_icmp_ne (pc := 45) (tgt := 52) dX0_hands_45 (by decide) (fun h6 => ?_) (fun h6 => ?_)
      · refine go_iconst (pc := 48) (v := (-1)) dX0_hands_48 (by decide) ?_
        refine go_goto (pc := 49) (tgt := 75) dX0_hands_49 (by decide) ?_
        exact go_ireturn (pc := 75) rfl dX0_hands_75
      · refine go_aload_n (pc := 52) (j := 0) (i := 0) dX0_hands_52 rfl rfl ?_
        refine go_getR (pc := 53) (n := self) (ci := 0) (k := 27) (t := 2) fa_X0_90_0 t_self rfl dX0_hands_53 fun r8 t_r8 => ?_
        refine go_oB fun n8 e_n8 => ?_
        have t_n8 := t_r8 n8 e_n8
        subst e_n8
        refine go_getR (pc := 56) (n := n8) (ci := 2) (k := 1) (t := 18) fa_X0_456_2 t_n8 rfl dX0_hands_56 fun r9 t_r9 => ?_
        refine go_aload_n (pc := 59) (j := 0) (i := 0) dX0_hands_59 rfl rfl ?_
        refine go_getR (pc := 60) (n := self) (ci := 0) (k := 27) (t := 2) fa_X0_90_0 t_self rfl dX0_hands_60 fun r10 t_r10 => ?_
        refine go_oB fun n9 e_n9 => ?_
        have t_n9 := t_r10 n9 e_n9
        subst e_n9
        refine go_getR (pc := 63) (n := n9) (ci := 2) (k := 3) (t := 13) fa_X0_453_2 t_n9 rfl dX0_hands_63 fun r11 t_r11 => ?_
        refine go_iload_n (pc := 66) (j := 2) (i := 2) dX0_hands_66 rfl rfl ?_
        refine go_bipush (pc := 67) (v := 10) dX0_hands_67 (by decide) ?_
        refine go_isub (pc := 69) dX0_hands_69 ?_
        refine go_oB fun n10 e_n10 => ?_
        have t_n10 := t_r11 n10 e_n10
        subst e_n10
        refine go_iald (pc := 70) t_n10 dX0_hands_70 ?_
        refine go_oB fun n11 e_n11 => ?_
        have t_n11 := t_r9 n11 e_n11
        subst e_n11
        refine go_aald (pc := 71) (n := n11) (ci := 18) (t := 5) (by decide) (by decide) t_n11 rfl dX0_hands_71 fun r12 t_r12 => ?_
        refine go_oB fun n12 e_n12 => ?_
        have t_n12 := t_r12 n12 e_n12
        subst e_n12
        refine go_getI (pc := 72) (n := n12) (ci := 5) (k := 0) fa_X0_325_5 t_n12 rfl dX0_hands_72 ?_
        exact go_ireturn (pc := 75) rfl dX0_hands_75

def f_X0_bring (self : Nat) (p0 : Int32) (p1 : Int32) (u : zM) : Option (Int32 × zM) := bd (f_X0_findCloth self p0 u) fun v1 u1 => bd (f_X0_findVillage self p1 u1) fun v2 u2 => oC v1 (some ((-1), u2)) fun n1 => oC v2 (some ((-1), u2)) fun n2 => lt (mR u2 n1 5) fun r1 => oC r1 (lt (mR u2 n1 0) fun r2 => oB r2 fun n4 => lt (mR u2 n4 3) fun r3 => oB r3 fun n5 => bd (f_X0_farOf self n5 n2 u2) fun v3 u3 => if v3 = (-1) then (some ((-1), u3)) else (if (((mI u3 n2 5) + (mI u3 n2 6)) + (mI u3 n1 3)) ≤ 9999 then (lt (sR u3 n1 5 (some n2)) fun u4 => if (mI u4 n1 4) = 0 then (lt (sI u4 n2 6 ((mI u4 n2 6) + (mI u4 n1 3))) fun u5 => some (((mI u5 n2 5) + (mI u5 n2 6)), u5)) else (lt (sI u4 n2 5 ((mI u4 n2 5) + (mI u4 n1 3))) fun u6 => lt (sI u6 n2 14 ((mI u6 n2 14) + (mI u6 n1 3))) fun u7 => some (((mI u7 n2 5) + (mI u7 n2 6)), u7))) else (some ((-1), u3)))) fun n3 => some ((-1), u2)
set_option maxHeartbeats 4000000 in
theorem ct_X0_bring (self : Nat) (p0 : Int32) (p1 : Int32) (t_self : kd self = 0) : zMet yX0_bring cX0_bring 5 (some .int) 3 43 rvI (obT) [.ref self, .int p0, .int p1] (f_X0_bring self p0 p1) := by
  refine zMet_of (A := [(0, .ref self), (1, .int p0), (2, .int p1)]) (B := []) (ini := false) RX0 rfl (by decide +kernel) (fun h => by cases h) (by simp [lg_sl, Value.category]) (by simp [lv_args, Value.category]) rfl (by simp [lv_args, Value.category]) fun u => ?_
  unfold f_X0_bring
  refine go_aload_n (pc := 0) (j := 0) (i := 0) dX0_bring_0 rfl rfl ?_
  refine go_iload_n (pc := 1) (j := 1) (i := 1) dX0_bring_1 rfl rfl ?_
  refine go_callVR (pc := 2) (ci := 0) (ct_X0_findCloth self p0 t_self) lk_X0_424 rfl rfl rfl (by decide) t_self ⟨by decide, by decide⟩ (Nat.le_of_ble_eq_true rfl) dX0_bring_2 rfl fun v1 u1 t_v1 => ?_
  refine go_astore_nQ (pc := 5) (j := 3) (r := v1) (i := 3) (A' := [(0, .ref self), (1, .int p0), (2, .int p1), (3, va_rf v1)]) rfl (by decide) rfl rfl rfl dX0_bring_5 ?_
  refine go_aload_n (pc := 6) (j := 0) (i := 0) dX0_bring_6 rfl rfl ?_
  refine go_iload_n (pc := 7) (j := 2) (i := 2) dX0_bring_7 rfl rfl ?_
  refine go_callVR (pc := 8) (ci := 0) (ct_X0_findVillage self p1 t_self) lk_X0_136 rfl rfl rfl (by decide) t_self ⟨by decide, by decide⟩ (Nat.le_of_ble_eq_true rfl) dX0_bring_8 rfl fun v2 u2 t_v2 => ?_
  refine go_astoreQ (pc := 11) (r := v2) (i := 4) (A' := [(0, .ref self), (1, .int p0), (2, .int p1), (3, va_rf v1), (4, va_rf v2)]) (by decide) rfl rfl rfl dX0_bring_11 ?_
  refine go_aload_nQ (pc := 13) (j := 3) (r := v1) (i := 3) dX0_bring_13 rfl rfl ?_
  refine go_ifnull (pc := 14) (tgt := 68) dX0_bring_14 (by decide) (fun e_n1 => ?_) (fun n1 e_n1 => ?_)
  · subst e_n1
    refine go_iconst (pc := 68) (v := (-1)) dX0_bring_68 (by decide) ?_
    exact go_ireturn (pc := 69) rfl dX0_bring_69
  · have t_n1 := t_v1 n1 e_n1
    subst e_n1
    refine go_aloadQ (pc := 17) (r := v2) (i := 4) dX0_bring_17 rfl ?_
    refine go_ifnull (pc := 19) (tgt := 68) dX0_bring_19 (by decide) (fun e_n2 => ?_) (fun n2 e_n2 => ?_)
    · subst e_n2
      refine go_iconst (pc := 68) (v := (-1)) dX0_bring_68 (by decide) ?_
      exact go_ireturn (pc := 69) rfl dX0_bring_69
    · have t_n2 := t_v2 n2 e_n2
      subst e_n2
      refine go_aload_n (pc := 22) (j := 3) (i := 3) dX0_bring_22 rfl rfl ?_
      refine go_getR (pc := 23) (n := n1) (ci := 12) (k := 5) (t := 4) fa_X0_442_12 t_n1 rfl dX0_bring_23 fun r1 t_r1 => ?_
      refine go_ifnonnull (pc := 26) (tgt := 68) dX0_bring_26 (by decide) (fun e_n3 => ?_) (fun n3 e_n3 => ?_)
      · subst e_n3
        refine go_aload_n (pc := 29) (j := 0) (i := 0) dX0_bring_29 rfl rfl ?_
        refine go_aload_n (pc := 30) (j := 3) (i := 3) dX0_bring_30 rfl rfl ?_
        refine go_getR (pc := 31) (n := n1) (ci := 12) (k := 0) (t := 5) fa_X0_433_12 t_n1 rfl dX0_bring_31 fun r2 t_r2 => ?_
        refine go_oB fun n4 e_n4 => ?_
        have t_n4 := t_r2 n4 e_n4
        subst e_n4
        refine go_getR (pc := 34) (n := n4) (ci := 5) (k := 3) (t := 4) fa_X0_240_5 t_n4 rfl dX0_bring_34 fun r3 t_r3 => ?_
        refine go_aload (pc := 37) (i := 4) dX0_bring_37 rfl ?_
        refine go_oB fun n5 e_n5 => ?_
        have t_n5 := t_r3 n5 e_n5
        subst e_n5
        refine go_callVI (pc := 39) (ci := 0) (ct_X0_farOf self n5 n2 t_self t_n5 t_n2) lk_X0_147 rfl rfl rfl (by decide) t_self ⟨by decide, by decide⟩ (Nat.le_of_ble_eq_true rfl) dX0_bring_39 rfl fun v3 u3 => ?_
        refine go_iconst (pc := 42) (v := (-1)) dX0_bring_42 (by decide) ?_
        refine go_icmp_eq (pc := 43) (tgt := 68) dX0_bring_43 (by decide) (fun h1 => ?_) (fun h1 => ?_)
        · refine go_iconst (pc := 68) (v := (-1)) dX0_bring_68 (by decide) ?_
          exact go_ireturn (pc := 69) rfl dX0_bring_69
        · refine go_aload (pc := 46) (i := 4) dX0_bring_46 rfl ?_
          refine go_getI (pc := 48) (n := n2) (ci := 4) (k := 5) fa_X0_468_4 t_n2 rfl dX0_bring_48 ?_
          refine go_aload (pc := 51) (i := 4) dX0_bring_51 rfl ?_
          refine go_getI (pc := 53) (n := n2) (ci := 4) (k := 6) fa_X0_471_4 t_n2 rfl dX0_bring_53 ?_
          refine go_iadd (pc := 56) dX0_bring_56 ?_
          refine go_aload_n (pc := 57) (j := 3) (i := 3) dX0_bring_57 rfl rfl ?_
          refine go_getI (pc := 58) (n := n1) (ci := 12) (k := 3) fa_X0_435_12 t_n1 rfl dX0_bring_58 ?_
          refine go_iadd (pc := 61) dX0_bring_61 ?_
          refine go_sipush (pc := 62) (v := 9999) dX0_bring_62 (by decide) ?_
          refine go_icmp_le (pc := 65) (tgt := 70) dX0_bring_65 (by decide) (fun h2 => ?_) (fun h2 => ?_)
          · refine go_aload_n (pc := 70) (j := 3) (i := 3) dX0_bring_70 rfl rfl ?_
            refine go_aload (pc := 71) (i := 4) dX0_bring_71 rfl ?_
            refine go_putR (pc := 73) (n := n1) (ci := 12) (k := 5) (t := 4) (r := some n2) pa_X0_442_12 (fun h => by cases h) t_n1 rfl (Or.inl ⟨_, rfl⟩) (fun n h => by cases h; exact t_n2) dX0_bring_73 fun u4 => ?_
            refine go_aload_n (pc := 76) (j := 3) (i := 3) dX0_bring_76 rfl rfl ?_
            refine go_getI (pc := 77) (n := n1) (ci := 12) (k := 4) fa_X0_438_12 t_n1 rfl dX0_bring_77 ?_
            refine go_if_eq (pc := 80) (tgt := 114) dX0_bring_80 (by decide) (fun h3 => ?_) (fun h3 => ?_)
            · refine go_aload (pc := 114) (i := 4) dX0_bring_114 rfl ?_
              refine go_dupA (pc := 116) dX0_bring_116 ?_
              refine go_getI (pc := 117) (n := n2) (ci := 4) (k := 6) fa_X0_471_4 t_n2 rfl dX0_bring_117 ?_
              refine go_aload_n (pc := 120) (j := 3) (i := 3) dX0_bring_120 rfl rfl ?_
              refine go_getI (pc := 121) (n := n1) (ci := 12) (k := 3) fa_X0_435_12 t_n1 rfl dX0_bring_121 ?_
              refine go_iadd (pc := 124) dX0_bring_124 ?_
              refine go_putI (pc := 125) (n := n2) (ci := 4) (k := 6) (v := ((mI u4 n2 6) + (mI u4 n1 3))) pa_X0_471_4 (fun h => by cases h) t_n2 rfl zKeep_int dX0_bring_125 fun u5 => ?_
              refine go_aload (pc := 128) (i := 4) dX0_bring_128 rfl ?_
              refine go_getI (pc := 130) (n := n2) (ci := 4) (k := 5) fa_X0_468_4 t_n2 rfl dX0_bring_130 ?_
              refine go_aload (pc := 133) (i := 4) dX0_bring_133 rfl ?_
              refine go_getI (pc := 135) (n := n2) (ci := 4) (k := 6) fa_X0_471_4 t_n2 rfl dX0_bring_135 ?_
              refine go_iadd (pc := 138) dX0_bring_138 ?_
              exact go_ireturn (pc := 139) rfl dX0_bring_139
            · refine go_aload (pc := 83) (i := 4) dX0_bring_83 rfl ?_
              refine go_dupA (pc := 85) dX0_bring_85 ?_
              refine go_getI (pc := 86) (n := n2) (ci := 4) (k := 5) fa_X0_468_4 t_n2 rfl dX0_bring_86 ?_
              refine go_aload_n (pc := 89) (j := 3) (i := 3) dX0_bring_89 rfl rfl ?_
              refine go_getI (pc := 90) (n := n1) (ci := 12) (k := 3) fa_X0_435_12 t_n1 rfl dX0_bring_90 ?_
              refine go_iadd (pc := 93) dX0_bring_93 ?_
              refine go_putI (pc := 94) (n := n2) (ci := 4) (k := 5) (v := ((mI u4 n2 5) + (mI u4 n1 3))) pa_X0_468_4 (fun h => by cases h) t_n2 rfl zKeep_int dX0_bring_94 fun u6 => ?_
              refine go_aload (pc := 97) (i := 4) dX0_bring_97 rfl ?_
              refine go_dupA (pc := 99) dX0_bring_99 ?_
              refine go_getI (pc := 100) (n := n2) (ci := 4) (k := 14) fa_X0_474_4 t_n2 rfl dX0_bring_100 ?_
              refine go_aload_n (pc := 103) (j := 3) (i := 3) dX0_bring_103 rfl rfl ?_
              refine go_getI (pc := 104) (n := n1) (ci := 12) (k := 3) fa_X0_435_12 t_n1 rfl dX0_bring_104 ?_
              refine go_iadd (pc := 107) dX0_bring_107 ?_
              refine go_putI (pc := 108) (n := n2) (ci := 4) (k := 14) (v := ((mI u6 n2 14) + (mI u6 n1 3))) pa_X0_474_4 (fun h => by cases h) t_n2 rfl zKeep_int dX0_bring_108 fun u7 => ?_
              refine go_goto (pc := 111) (tgt := 128) dX0_bring_111 (by decide) ?_
              refine go_aload (pc := 128) (i := 4) dX0_bring_128 rfl ?_
              refine go_getI (pc := 130) (n := n2) (ci := 4) (k := 5) fa_X0_468_4 t_n2 rfl dX0_bring_130 ?_
              refine go_aload (pc := 133) (i := 4) dX0_bring_133 rfl ?_
              refine go_getI (pc := 135) (n := n2) (ci := 4) (k := 6) fa_X0_471_4 t_n2 rfl dX0_bring_135 ?_
              refine go_iadd (pc := 138) dX0_bring_138 ?_
              exact go_ireturn (pc := 139) rfl dX0_bring_139
          · refine go_iconst (pc := 68) (v := (-1)) dX0_bring_68 (by decide) ?_
            exact go_ireturn (pc := 69) rfl dX0_bring_69
      · have t_n3 := t_r1 n3 e_n3
        subst e_n3
        refine go_iconst (pc := 68) (v := (-1)) dX0_bring_68 (by decide) ?_
        exact go_ireturn (pc := 69) rfl dX0_bring_69

def f_X0_mill (self : Nat) (p0 : Int32) (p1 : Int32) (u : zM) : Option (Int32 × zM) := bd (f_X0_findVillage self p0 u) fun v1 u1 => oC v1 (some ((-1), u1)) fun n1 => bd (f_X0_in p1 1 999 u1) fun v2 u2 => if v2 = 0 then (some ((-1), u2)) else (if ((mI u2 n1 7) + p1) ≤ 9999 then (lt (sI u2 n1 7 ((mI u2 n1 7) + p1)) fun u3 => some ((mI u3 n1 7), u3)) else (some ((-1), u2)))
set_option maxHeartbeats 4000000 in
theorem ct_X0_mill (self : Nat) (p0 : Int32) (p1 : Int32) (t_self : kd self = 0) : zMet yX0_mill cX0_mill 4 (some .int) 3 43 rvI (obT) [.ref self, .int p0, .int p1] (f_X0_mill self p0 p1) := by
  refine zMet_of (A := [(0, .ref self), (1, .int p0), (2, .int p1)]) (B := []) (ini := false) RX0 rfl (by decide +kernel) (fun h => by cases h) (by simp [lg_sl, Value.category]) (by simp [lv_args, Value.category]) rfl (by simp [lv_args, Value.category]) fun u => ?_
  unfold f_X0_mill
  refine go_aload_n (pc := 0) (j := 0) (i := 0) dX0_mill_0 rfl rfl ?_
  refine go_iload_n (pc := 1) (j := 1) (i := 1) dX0_mill_1 rfl rfl ?_
  refine go_callVR (pc := 2) (ci := 0) (ct_X0_findVillage self p0 t_self) lk_X0_136 rfl rfl rfl (by decide) t_self ⟨by decide, by decide⟩ (Nat.le_of_ble_eq_true rfl) dX0_mill_2 rfl fun v1 u1 t_v1 => ?_
  refine go_astore_nQ (pc := 5) (j := 3) (r := v1) (i := 3) (A' := [(0, .ref self), (1, .int p0), (2, .int p1), (3, va_rf v1)]) rfl (by decide) rfl rfl rfl dX0_mill_5 ?_
  refine go_aload_nQ (pc := 6) (j := 3) (r := v1) (i := 3) dX0_mill_6 rfl rfl ?_
  refine go_ifnull (pc := 7) (tgt := 33) dX0_mill_7 (by decide) (fun e_n1 => ?_) (fun n1 e_n1 => ?_)
  · subst e_n1
    refine go_iconst (pc := 33) (v := (-1)) dX0_mill_33 (by decide) ?_
    exact go_ireturn (pc := 34) rfl dX0_mill_34
  · have t_n1 := t_v1 n1 e_n1
    subst e_n1
    refine go_iload_n (pc := 10) (j := 2) (i := 2) dX0_mill_10 rfl rfl ?_
    refine go_iconst (pc := 11) (v := 1) dX0_mill_11 (by decide) ?_
    refine go_sipush (pc := 12) (v := 999) dX0_mill_12 (by decide) ?_
    refine go_callSI (pc := 15) (ct_X0_in p1 1 999) lk_X0_116 rfl ⟨by decide, by decide⟩ (Nat.le_of_ble_eq_true rfl) dX0_mill_15 rfl fun v2 u2 => ?_
    refine go_if_eq (pc := 18) (tgt := 33) dX0_mill_18 (by decide) (fun h1 => ?_) (fun h1 => ?_)
    · refine go_iconst (pc := 33) (v := (-1)) dX0_mill_33 (by decide) ?_
      exact go_ireturn (pc := 34) rfl dX0_mill_34
    · refine go_aload_n (pc := 21) (j := 3) (i := 3) dX0_mill_21 rfl rfl ?_
      refine go_getI (pc := 22) (n := n1) (ci := 4) (k := 7) fa_X0_277_4 t_n1 rfl dX0_mill_22 ?_
      refine go_iload_n (pc := 25) (j := 2) (i := 2) dX0_mill_25 rfl rfl ?_
      refine go_iadd (pc := 26) dX0_mill_26 ?_
      refine go_sipush (pc := 27) (v := 9999) dX0_mill_27 (by decide) ?_
      refine go_icmp_le (pc := 30) (tgt := 35) dX0_mill_30 (by decide) (fun h2 => ?_) (fun h2 => ?_)
      · refine go_aload_n (pc := 35) (j := 3) (i := 3) dX0_mill_35 rfl rfl ?_
        refine go_dupA (pc := 36) dX0_mill_36 ?_
        refine go_getI (pc := 37) (n := n1) (ci := 4) (k := 7) fa_X0_277_4 t_n1 rfl dX0_mill_37 ?_
        refine go_iload_n (pc := 40) (j := 2) (i := 2) dX0_mill_40 rfl rfl ?_
        refine go_iadd (pc := 41) dX0_mill_41 ?_
        refine go_putI (pc := 42) (n := n1) (ci := 4) (k := 7) (v := ((mI u2 n1 7) + p1)) pa_X0_277_4 (fun h => by cases h) t_n1 rfl zKeep_int dX0_mill_42 fun u3 => ?_
        refine go_aload_n (pc := 45) (j := 3) (i := 3) dX0_mill_45 rfl rfl ?_
        refine go_getI (pc := 46) (n := n1) (ci := 4) (k := 7) fa_X0_277_4 t_n1 rfl dX0_mill_46 ?_
        exact go_ireturn (pc := 49) rfl dX0_mill_49
      · refine go_iconst (pc := 33) (v := (-1)) dX0_mill_33 (by decide) ?_
        exact go_ireturn (pc := 34) rfl dX0_mill_34

def f_X0_price (self : Nat) (p0 : Int32) (p1 : Int32) (u : zM) : Option (Int32 × zM) := bd (f_X0_findVillage self p0 u) fun v1 u1 => oC v1 (gb 0 (some (0, u1))) fun n1 => if p1 < 0 then (gb 0 (some (0, u1))) else (bd (f_X0_in (p1 / 100) 1 99 u1) fun v2 u2 => if v2 = 0 then (gb 0 (some (0, u2))) else (if (p1 - p1 / 100 * 100) = 0 then (gb 0 (some (0, u2))) else (lt (sI u2 n1 8 (p1 / 100)) fun u3 => lt (sI u3 n1 9 (p1 - p1 / 100 * 100)) fun u4 => gb 1 (some (1, u4)))))
set_option maxHeartbeats 4000000 in
theorem ct_X0_price (self : Nat) (p0 : Int32) (p1 : Int32) (t_self : kd self = 0) : zMet yX0_price cX0_price 4 (some .boolean) 3 43 rvI (obT) [.ref self, .int p0, .int p1] (f_X0_price self p0 p1) := by
  refine zMet_of (A := [(0, .ref self), (1, .int p0), (2, .int p1)]) (B := []) (ini := false) RX0 rfl (by decide +kernel) (fun h => by cases h) (by simp [lg_sl, Value.category]) (by simp [lv_args, Value.category]) rfl (by simp [lv_args, Value.category]) fun u => ?_
  unfold f_X0_price
  refine go_aload_n (pc := 0) (j := 0) (i := 0) dX0_price_0 rfl rfl ?_
  refine go_iload_n (pc := 1) (j := 1) (i := 1) dX0_price_1 rfl rfl ?_
  refine go_callVR (pc := 2) (ci := 0) (ct_X0_findVillage self p0 t_self) lk_X0_136 rfl rfl rfl (by decide) t_self ⟨by decide, by decide⟩ (Nat.le_of_ble_eq_true rfl) dX0_price_2 rfl fun v1 u1 t_v1 => ?_
  refine go_astore_nQ (pc := 5) (j := 3) (r := v1) (i := 3) (A' := [(0, .ref self), (1, .int p0), (2, .int p1), (3, va_rf v1)]) rfl (by decide) rfl rfl rfl dX0_price_5 ?_
  refine go_aload_nQ (pc := 6) (j := 3) (r := v1) (i := 3) dX0_price_6 rfl rfl ?_
  refine go_ifnull (pc := 7) (tgt := 34) dX0_price_7 (by decide) (fun e_n1 => ?_) (fun n1 e_n1 => ?_)
  · subst e_n1
    refine go_iconst (pc := 34) (v := 0) dX0_price_34 (by decide) ?_
    exact go_zreturn (pc := 35) rfl dX0_price_35
  · have t_n1 := t_v1 n1 e_n1
    subst e_n1
    refine go_iload_n (pc := 10) (j := 2) (i := 2) dX0_price_10 rfl rfl ?_
    refine go_if_lt (pc := 11) (tgt := 34) dX0_price_11 (by decide) (fun h1 => ?_) (fun h1 => ?_)
    · refine go_iconst (pc := 34) (v := 0) dX0_price_34 (by decide) ?_
      exact go_zreturn (pc := 35) rfl dX0_price_35
    · refine go_iload_n (pc := 14) (j := 2) (i := 2) dX0_price_14 rfl rfl ?_
      refine go_bipush (pc := 15) (v := 100) dX0_price_15 (by decide) ?_
      refine go_idiv (pc := 17) dX0_price_17 (by decide) ?_
      refine go_iconst (pc := 18) (v := 1) dX0_price_18 (by decide) ?_
      refine go_bipush (pc := 19) (v := 99) dX0_price_19 (by decide) ?_
      refine go_callSI (pc := 21) (ct_X0_in (p1 / 100) 1 99) lk_X0_116 rfl ⟨by decide, by decide⟩ (Nat.le_of_ble_eq_true rfl) dX0_price_21 rfl fun v2 u2 => ?_
      refine go_if_eq (pc := 24) (tgt := 34) dX0_price_24 (by decide) (fun h2 => ?_) (fun h2 => ?_)
      · refine go_iconst (pc := 34) (v := 0) dX0_price_34 (by decide) ?_
        exact go_zreturn (pc := 35) rfl dX0_price_35
      · refine go_iload_n (pc := 27) (j := 2) (i := 2) dX0_price_27 rfl rfl ?_
        refine go_bipush (pc := 28) (v := 100) dX0_price_28 (by decide) ?_
        refine go_irem (pc := 30) dX0_price_30 (by decide) ?_
        refine go_if_ne (pc := 31) (tgt := 36) dX0_price_31 (by decide) (fun h3 => ?_) (fun h3 => ?_)
        · refine go_iconst (pc := 34) (v := 0) dX0_price_34 (by decide) ?_
          exact go_zreturn (pc := 35) rfl dX0_price_35
        · refine go_aload_n (pc := 36) (j := 3) (i := 3) dX0_price_36 rfl rfl ?_
          refine go_iload_n (pc := 37) (j := 2) (i := 2) dX0_price_37 rfl rfl ?_
          refine go_bipush (pc := 38) (v := 100) dX0_price_38 (by decide) ?_
          refine go_idiv (pc := 40) dX0_price_40 (by decide) ?_
          refine go_putI (pc := 41) (n := n1) (ci := 4) (k := 8) (v := (p1 / 100)) pa_X0_274_4 (fun h => by cases h) t_n1 rfl zKeep_int dX0_price_41 fun u3 => ?_
          refine go_aload_n (pc := 44) (j := 3) (i := 3) dX0_price_44 rfl rfl ?_
          refine go_iload_n (pc := 45) (j := 2) (i := 2) dX0_price_45 rfl rfl ?_
          refine go_bipush (pc := 46) (v := 100) dX0_price_46 (by decide) ?_
          refine go_irem (pc := 48) dX0_price_48 (by decide) ?_
          refine go_putI (pc := 49) (n := n1) (ci := 4) (k := 9) (v := (p1 - p1 / 100 * 100)) pa_X0_224_4 (fun h => by cases h) t_n1 rfl zKeep_int dX0_price_49 fun u4 => ?_
          refine go_iconst (pc := 52) (v := 1) dX0_price_52 (by decide) ?_
          exact go_zreturn (pc := 53) rfl dX0_price_53

def f_X0_talk (self : Nat) (p0 : Int32) (p1 : Int32) (u : zM) : Option (Int32 × zM) := bd (f_X0_findVillage self p0 u) fun v1 u1 => oC v1 (some ((-1), u1)) fun n1 => bd (f_X0_in p1 0 20 u1) fun v2 u2 => if v2 = 0 then (some ((-1), u2)) else (lt (sI u2 n1 10 p1) fun u3 => some (p1, u3))
set_option maxHeartbeats 4000000 in
theorem ct_X0_talk (self : Nat) (p0 : Int32) (p1 : Int32) (t_self : kd self = 0) : zMet yX0_talk cX0_talk 4 (some .int) 3 43 rvI (obT) [.ref self, .int p0, .int p1] (f_X0_talk self p0 p1) := by
  refine zMet_of (A := [(0, .ref self), (1, .int p0), (2, .int p1)]) (B := []) (ini := false) RX0 rfl (by decide +kernel) (fun h => by cases h) (by simp [lg_sl, Value.category]) (by simp [lv_args, Value.category]) rfl (by simp [lv_args, Value.category]) fun u => ?_
  unfold f_X0_talk
  refine go_aload_n (pc := 0) (j := 0) (i := 0) dX0_talk_0 rfl rfl ?_
  refine go_iload_n (pc := 1) (j := 1) (i := 1) dX0_talk_1 rfl rfl ?_
  refine go_callVR (pc := 2) (ci := 0) (ct_X0_findVillage self p0 t_self) lk_X0_136 rfl rfl rfl (by decide) t_self ⟨by decide, by decide⟩ (Nat.le_of_ble_eq_true rfl) dX0_talk_2 rfl fun v1 u1 t_v1 => ?_
  refine go_astore_nQ (pc := 5) (j := 3) (r := v1) (i := 3) (A' := [(0, .ref self), (1, .int p0), (2, .int p1), (3, va_rf v1)]) rfl (by decide) rfl rfl rfl dX0_talk_5 ?_
  refine go_aload_nQ (pc := 6) (j := 3) (r := v1) (i := 3) dX0_talk_6 rfl rfl ?_
  refine go_ifnull (pc := 7) (tgt := 20) dX0_talk_7 (by decide) (fun e_n1 => ?_) (fun n1 e_n1 => ?_)
  · subst e_n1
    refine go_iconst (pc := 20) (v := (-1)) dX0_talk_20 (by decide) ?_
    exact go_ireturn (pc := 21) rfl dX0_talk_21
  · have t_n1 := t_v1 n1 e_n1
    subst e_n1
    refine go_iload_n (pc := 10) (j := 2) (i := 2) dX0_talk_10 rfl rfl ?_
    refine go_iconst (pc := 11) (v := 0) dX0_talk_11 (by decide) ?_
    refine go_bipush (pc := 12) (v := 20) dX0_talk_12 (by decide) ?_
    refine go_callSI (pc := 14) (ct_X0_in p1 0 20) lk_X0_116 rfl ⟨by decide, by decide⟩ (Nat.le_of_ble_eq_true rfl) dX0_talk_14 rfl fun v2 u2 => ?_
    refine go_if_ne (pc := 17) (tgt := 22) dX0_talk_17 (by decide) (fun h1 => ?_) (fun h1 => ?_)
    · refine go_iconst (pc := 20) (v := (-1)) dX0_talk_20 (by decide) ?_
      exact go_ireturn (pc := 21) rfl dX0_talk_21
    · refine go_aload_n (pc := 22) (j := 3) (i := 3) dX0_talk_22 rfl rfl ?_
      refine go_iload_n (pc := 23) (j := 2) (i := 2) dX0_talk_23 rfl rfl ?_
      refine go_putI (pc := 24) (n := n1) (ci := 4) (k := 10) (v := p1) pa_X0_280_4 (fun h => by cases h) t_n1 rfl zKeep_int dX0_talk_24 fun u3 => ?_
      refine go_iload_n (pc := 27) (j := 2) (i := 2) dX0_talk_27 rfl rfl ?_
      exact go_ireturn (pc := 28) rfl dX0_talk_28

def f_X0_heard (self : Nat) (p0 : Int32) (p1 : Int32) (u : zM) : Option (Int32 × zM) := bd (f_X0_findVillage self p0 u) fun v1 u1 => bd (f_X0_findVillage self p1 u1) fun v2 u2 => oC v1 (some ((-1), u2)) fun n1 => oC v2 (some ((-1), u2)) fun n2 => bd (f_X0_farOf self n1 n2 u2) fun v3 u3 => if v3 = (-1) then (some ((-1), u3)) else (if (mI u3 self 14) = 156 then (some ((-1), u3)) else (lt (mR u3 n2 3) fun r1 => bd (f_X0_farOf self n1 n2 u3) fun v4 u4 => bd (f_X0_begun v4 7 u4) fun v5 u5 => oB r1 fun n3 => ix (if 0 < ((mI u3 self 14) - v5) then ((mI u3 self 14) - v5) else 0) (mN u5 n3) (some ((mI u5 n3 (xN (if 0 < ((mI u3 self 14) - v5) then ((mI u3 self 14) - v5) else 0))), u5))))
set_option maxHeartbeats 4000000 in
theorem ct_X0_heard (self : Nat) (p0 : Int32) (p1 : Int32) (t_self : kd self = 0) : zMet yX0_heard cX0_heard 5 (some .int) 3 43 rvI (obT) [.ref self, .int p0, .int p1] (f_X0_heard self p0 p1) := by
  refine zMet_of (A := [(0, .ref self), (1, .int p0), (2, .int p1)]) (B := []) (ini := false) RX0 rfl (by decide +kernel) (fun h => by cases h) (by simp [lg_sl, Value.category]) (by simp [lv_args, Value.category]) rfl (by simp [lv_args, Value.category]) fun u => ?_
  unfold f_X0_heard
  refine go_aload_n (pc := 0) (j := 0) (i := 0) dX0_heard_0 rfl rfl ?_
  refine go_iload_n (pc := 1) (j := 1) (i := 1) dX0_heard_1 rfl rfl ?_
  refine go_callVR (pc := 2) (ci := 0) (ct_X0_findVillage self p0 t_self) lk_X0_136 rfl rfl rfl (by decide) t_self ⟨by decide, by decide⟩ (Nat.le_of_ble_eq_true rfl) dX0_heard_2 rfl fun v1 u1 t_v1 => ?_
  refine go_astore_nQ (pc := 5) (j := 3) (r := v1) (i := 3) (A' := [(0, .ref self), (1, .int p0), (2, .int p1), (3, va_rf v1)]) rfl (by decide) rfl rfl rfl dX0_heard_5 ?_
  refine go_aload_n (pc := 6) (j := 0) (i := 0) dX0_heard_6 rfl rfl ?_
  refine go_iload_n (pc := 7) (j := 2) (i := 2) dX0_heard_7 rfl rfl ?_
  refine go_callVR (pc := 8) (ci := 0) (ct_X0_findVillage self p1 t_self) lk_X0_136 rfl rfl rfl (by decide) t_self ⟨by decide, by decide⟩ (Nat.le_of_ble_eq_true rfl) dX0_heard_8 rfl fun v2 u2 t_v2 => ?_
  refine go_astoreQ (pc := 11) (r := v2) (i := 4) (A' := [(0, .ref self), (1, .int p0), (2, .int p1), (3, va_rf v1), (4, va_rf v2)]) (by decide) rfl rfl rfl dX0_heard_11 ?_
  refine go_aload_nQ (pc := 13) (j := 3) (r := v1) (i := 3) dX0_heard_13 rfl rfl ?_
  refine go_ifnull (pc := 14) (tgt := 43) dX0_heard_14 (by decide) (fun e_n1 => ?_) (fun n1 e_n1 => ?_)
  · subst e_n1
    refine go_iconst (pc := 43) (v := (-1)) dX0_heard_43 (by decide) ?_
    exact go_ireturn (pc := 44) rfl dX0_heard_44
  · have t_n1 := t_v1 n1 e_n1
    subst e_n1
    refine go_aloadQ (pc := 17) (r := v2) (i := 4) dX0_heard_17 rfl ?_
    refine go_ifnull (pc := 19) (tgt := 43) dX0_heard_19 (by decide) (fun e_n2 => ?_) (fun n2 e_n2 => ?_)
    · subst e_n2
      refine go_iconst (pc := 43) (v := (-1)) dX0_heard_43 (by decide) ?_
      exact go_ireturn (pc := 44) rfl dX0_heard_44
    · have t_n2 := t_v2 n2 e_n2
      subst e_n2
      refine go_aload_n (pc := 22) (j := 0) (i := 0) dX0_heard_22 rfl rfl ?_
      refine go_aload_n (pc := 23) (j := 3) (i := 3) dX0_heard_23 rfl rfl ?_
      refine go_aload (pc := 24) (i := 4) dX0_heard_24 rfl ?_
      refine go_callVI (pc := 26) (ci := 0) (ct_X0_farOf self n1 n2 t_self t_n1 t_n2) lk_X0_147 rfl rfl rfl (by decide) t_self ⟨by decide, by decide⟩ (Nat.le_of_ble_eq_true rfl) dX0_heard_26 rfl fun v3 u3 => ?_
      refine go_iconst (pc := 29) (v := (-1)) dX0_heard_29 (by decide) ?_
      refine go_icmp_eq (pc := 30) (tgt := 43) dX0_heard_30 (by decide) (fun h1 => ?_) (fun h1 => ?_)
      · refine go_iconst (pc := 43) (v := (-1)) dX0_heard_43 (by decide) ?_
        exact go_ireturn (pc := 44) rfl dX0_heard_44
      · refine go_aload_n (pc := 33) (j := 0) (i := 0) dX0_heard_33 rfl rfl ?_
        refine go_getI (pc := 34) (n := self) (ci := 0) (k := 14) fa_X0_151_0 t_self rfl dX0_heard_34 ?_
        refine go_sipush (pc := 37) (v := 156) dX0_heard_37 (by decide) ?_
        refine go_icmp_ne (pc := 40) (tgt := 45) dX0_heard_40 (by decide) (fun h2 => ?_) (fun h2 => ?_)
        · refine go_iconst (pc := 43) (v := (-1)) dX0_heard_43 (by decide) ?_
          exact go_ireturn (pc := 44) rfl dX0_heard_44
        · refine go_aload (pc := 45) (i := 4) dX0_heard_45 rfl ?_
          refine go_getR (pc := 47) (n := n2) (ci := 4) (k := 3) (t := 13) fa_X0_221_4 t_n2 rfl dX0_heard_47 fun r1 t_r1 => ?_
          refine go_iconst (pc := 50) (v := 0) dX0_heard_50 (by decide) ?_
          refine go_aload_n (pc := 51) (j := 0) (i := 0) dX0_heard_51 rfl rfl ?_
          refine go_getI (pc := 52) (n := self) (ci := 0) (k := 14) fa_X0_151_0 t_self rfl dX0_heard_52 ?_
          refine go_aload_n (pc := 55) (j := 0) (i := 0) dX0_heard_55 rfl rfl ?_
          refine go_aload_n (pc := 56) (j := 3) (i := 3) dX0_heard_56 rfl rfl ?_
          refine go_aload (pc := 57) (i := 4) dX0_heard_57 rfl ?_
          refine go_callVI (pc := 59) (ci := 0) (ct_X0_farOf self n1 n2 t_self t_n1 t_n2) lk_X0_147 rfl rfl rfl (by decide) t_self ⟨by decide, by decide⟩ (by simp [cat_rf, cat_int, cat_ref, cat_long]) dX0_heard_59 rfl fun v4 u4 => ?_
          refine go_bipush (pc := 62) (v := 7) dX0_heard_62 (by decide) ?_
          refine go_callSI (pc := 64) (ct_X0_begun v4 7) lk_X0_251 rfl ⟨by decide, by decide⟩ (by simp [cat_rf, cat_int, cat_ref, cat_long]) dX0_heard_64 rfl fun v5 u5 => ?_
          refine go_isub (pc := 67) dX0_heard_67 ?_
          refine go_mmaxI (pc := 68) dX0_heard_68 q672 q584 q102 q585 (by decide) (by simp [cat_rf, cat_int, cat_ref, cat_long]) ?_
          refine go_oB fun n3 e_n3 => ?_
          have t_n3 := t_r1 n3 e_n3
          subst e_n3
          refine go_iald (pc := 71) t_n3 dX0_heard_71 ?_
          exact go_ireturn (pc := 72) rfl dX0_heard_72

def f_X0_likes (self : Nat) (p0 : Int32) (u : zM) : Option (Int32 × zM) := bd (f_X0_findHouse self p0 u) fun v1 u1 => oC v1 (some ((-1), u1)) fun n1 => bd (f_X0_choice self n1 u1) fun v2 u2 => some (v2, u2)
set_option maxHeartbeats 4000000 in
theorem ct_X0_likes (self : Nat) (p0 : Int32) (t_self : kd self = 0) : zMet yX0_likes cX0_likes 3 (some .int) 7 176 rvI (obT) [.ref self, .int p0] (f_X0_likes self p0) := by
  refine zMet_of (A := [(0, .ref self), (1, .int p0)]) (B := []) (ini := false) RX0 rfl (by decide +kernel) (fun h => by cases h) (by simp [lg_sl, Value.category]) (by simp [lv_args, Value.category]) rfl (by simp [lv_args, Value.category]) fun u => ?_
  unfold f_X0_likes
  refine go_aload_n (pc := 0) (j := 0) (i := 0) dX0_likes_0 rfl rfl ?_
  refine go_iload_n (pc := 1) (j := 1) (i := 1) dX0_likes_1 rfl rfl ?_
  refine go_callVR (pc := 2) (ci := 0) (ct_X0_findHouse self p0 t_self) lk_X0_157 rfl rfl rfl (by decide) t_self ⟨by decide, by decide⟩ (Nat.le_of_ble_eq_true rfl) dX0_likes_2 rfl fun v1 u1 t_v1 => ?_
  refine go_astore_nQ (pc := 5) (j := 2) (r := v1) (i := 2) (A' := [(0, .ref self), (1, .int p0), (2, va_rf v1)]) rfl (by decide) rfl rfl rfl dX0_likes_5 ?_
  refine go_aload_nQ (pc := 6) (j := 2) (r := v1) (i := 2) dX0_likes_6 rfl rfl ?_
  refine go_ifnonnull (pc := 7) (tgt := 14) dX0_likes_7 (by decide) (fun e_n1 => ?_) (fun n1 e_n1 => ?_)
  · subst e_n1
    refine go_iconst (pc := 10) (v := (-1)) dX0_likes_10 (by decide) ?_
    refine go_goto (pc := 11) (tgt := 19) dX0_likes_11 (by decide) ?_
    exact go_ireturn (pc := 19) rfl dX0_likes_19
  · have t_n1 := t_v1 n1 e_n1
    subst e_n1
    refine go_aload_n (pc := 14) (j := 0) (i := 0) dX0_likes_14 rfl rfl ?_
    refine go_aload_n (pc := 15) (j := 2) (i := 2) dX0_likes_15 rfl rfl ?_
    refine go_callVI (pc := 16) (ci := 0) (ct_X0_choice self n1 t_self t_n1) lk_X0_283 rfl rfl rfl (by decide) t_self ⟨by decide, by decide⟩ (Nat.le_of_ble_eq_true rfl) dX0_likes_16 rfl fun v2 u2 => ?_
    exact go_ireturn (pc := 19) rfl dX0_likes_19

def f_X0_sold (self : Nat) (p0 : Int32) (p1 : Int32) (u : zM) : Option (Int32 × zM) := bd (f_X0_findVillage self p0 u) fun v1 u1 => oC v1 (some ((-1), u1)) fun n1 => bd (f_X0_in p1 1 999 u1) fun v2 u2 => if v2 = 0 then (some ((-1), u2)) else (if ((mI u2 n1 13) + p1) ≤ 9999 then (lt (sI u2 n1 13 ((mI u2 n1 13) + p1)) fun u3 => some ((mI u3 n1 13), u3)) else (some ((-1), u2)))
set_option maxHeartbeats 4000000 in
theorem ct_X0_sold (self : Nat) (p0 : Int32) (p1 : Int32) (t_self : kd self = 0) : zMet yX0_sold cX0_sold 4 (some .int) 3 43 rvI (obT) [.ref self, .int p0, .int p1] (f_X0_sold self p0 p1) := by
  refine zMet_of (A := [(0, .ref self), (1, .int p0), (2, .int p1)]) (B := []) (ini := false) RX0 rfl (by decide +kernel) (fun h => by cases h) (by simp [lg_sl, Value.category]) (by simp [lv_args, Value.category]) rfl (by simp [lv_args, Value.category]) fun u => ?_
  unfold f_X0_sold
  refine go_aload_n (pc := 0) (j := 0) (i := 0) dX0_sold_0 rfl rfl ?_
  refine go_iload_n (pc := 1) (j := 1) (i := 1) dX0_sold_1 rfl rfl ?_
  refine go_callVR (pc := 2) (ci := 0) (ct_X0_findVillage self p0 t_self) lk_X0_136 rfl rfl rfl (by decide) t_self ⟨by decide, by decide⟩ (Nat.le_of_ble_eq_true rfl) dX0_sold_2 rfl fun v1 u1 t_v1 => ?_
  refine go_astore_nQ (pc := 5) (j := 3) (r := v1) (i := 3) (A' := [(0, .ref self), (1, .int p0), (2, .int p1), (3, va_rf v1)]) rfl (by decide) rfl rfl rfl dX0_sold_5 ?_
  refine go_aload_nQ (pc := 6) (j := 3) (r := v1) (i := 3) dX0_sold_6 rfl rfl ?_
  refine go_ifnull (pc := 7) (tgt := 33) dX0_sold_7 (by decide) (fun e_n1 => ?_) (fun n1 e_n1 => ?_)
  · subst e_n1
    refine go_iconst (pc := 33) (v := (-1)) dX0_sold_33 (by decide) ?_
    exact go_ireturn (pc := 34) rfl dX0_sold_34
  · have t_n1 := t_v1 n1 e_n1
    subst e_n1
    refine go_iload_n (pc := 10) (j := 2) (i := 2) dX0_sold_10 rfl rfl ?_
    refine go_iconst (pc := 11) (v := 1) dX0_sold_11 (by decide) ?_
    refine go_sipush (pc := 12) (v := 999) dX0_sold_12 (by decide) ?_
    refine go_callSI (pc := 15) (ct_X0_in p1 1 999) lk_X0_116 rfl ⟨by decide, by decide⟩ (Nat.le_of_ble_eq_true rfl) dX0_sold_15 rfl fun v2 u2 => ?_
    refine go_if_eq (pc := 18) (tgt := 33) dX0_sold_18 (by decide) (fun h1 => ?_) (fun h1 => ?_)
    · refine go_iconst (pc := 33) (v := (-1)) dX0_sold_33 (by decide) ?_
      exact go_ireturn (pc := 34) rfl dX0_sold_34
    · refine go_aload_n (pc := 21) (j := 3) (i := 3) dX0_sold_21 rfl rfl ?_
      refine go_getI (pc := 22) (n := n1) (ci := 4) (k := 13) fa_X0_477_4 t_n1 rfl dX0_sold_22 ?_
      refine go_iload_n (pc := 25) (j := 2) (i := 2) dX0_sold_25 rfl rfl ?_
      refine go_iadd (pc := 26) dX0_sold_26 ?_
      refine go_sipush (pc := 27) (v := 9999) dX0_sold_27 (by decide) ?_
      refine go_icmp_le (pc := 30) (tgt := 35) dX0_sold_30 (by decide) (fun h2 => ?_) (fun h2 => ?_)
      · refine go_aload_n (pc := 35) (j := 3) (i := 3) dX0_sold_35 rfl rfl ?_
        refine go_dupA (pc := 36) dX0_sold_36 ?_
        refine go_getI (pc := 37) (n := n1) (ci := 4) (k := 13) fa_X0_477_4 t_n1 rfl dX0_sold_37 ?_
        refine go_iload_n (pc := 40) (j := 2) (i := 2) dX0_sold_40 rfl rfl ?_
        refine go_iadd (pc := 41) dX0_sold_41 ?_
        refine go_putI (pc := 42) (n := n1) (ci := 4) (k := 13) (v := ((mI u2 n1 13) + p1)) pa_X0_477_4 (fun h => by cases h) t_n1 rfl zKeep_int dX0_sold_42 fun u3 => ?_
        refine go_aload_n (pc := 45) (j := 3) (i := 3) dX0_sold_45 rfl rfl ?_
        refine go_getI (pc := 46) (n := n1) (ci := 4) (k := 13) fa_X0_477_4 t_n1 rfl dX0_sold_46 ?_
        exact go_ireturn (pc := 49) rfl dX0_sold_49
      · refine go_iconst (pc := 33) (v := (-1)) dX0_sold_33 (by decide) ?_
        exact go_ireturn (pc := 34) rfl dX0_sold_34

def f_X0_wrongAt (p0 : Nat) (p1 : Int32) (u : zM) : Option (Int32 × zM) := if p1 = 0 then (some ((if 0 < ((mI u p0 13) - (mI u p0 14)) then ((mI u p0 13) - (mI u p0 14)) else 0), u)) else (some ((if 0 < ((mI u p0 13) - (mI u p0 15)) then ((mI u p0 13) - (mI u p0 15)) else 0), u))
set_option maxHeartbeats 4000000 in
theorem ct_X0_wrongAt (p0 : Nat) (p1 : Int32) (t_p0 : kd p0 = 4) : zMet yX0_wrongAt cX0_wrongAt 2 (some .int) 1 40 rvI (obT) [.ref p0, .int p1] (f_X0_wrongAt p0 p1) := by
  refine zMet_of (A := [(0, .ref p0), (1, .int p1)]) (B := []) (ini := false) RX0 rfl (by decide +kernel) (fun h => by cases h) (by simp [lg_sl, Value.category]) (by simp [lv_args, Value.category]) rfl (by simp [lv_args, Value.category]) fun u => ?_
  unfold f_X0_wrongAt
  refine go_iconst (pc := 0) (v := 0) dX0_wrongAt_0 (by decide) ?_
  refine go_aload_n (pc := 1) (j := 0) (i := 0) dX0_wrongAt_1 rfl rfl ?_
  refine go_getI (pc := 2) (n := p0) (ci := 4) (k := 13) fa_X0_477_4 t_p0 rfl dX0_wrongAt_2 ?_
  refine go_iload_n (pc := 5) (j := 1) (i := 1) dX0_wrongAt_5 rfl rfl ?_
  refine go_if_eq (pc := 6) (tgt := 16) dX0_wrongAt_6 (by decide) (fun h1 => ?_) (fun h1 => ?_)
  · refine go_aload_n (pc := 16) (j := 0) (i := 0) dX0_wrongAt_16 rfl rfl ?_
    refine go_getI (pc := 17) (n := p0) (ci := 4) (k := 14) fa_X0_474_4 t_p0 rfl dX0_wrongAt_17 ?_
    refine go_isub (pc := 20) dX0_wrongAt_20 ?_
    refine go_mmaxI (pc := 21) dX0_wrongAt_21 q672 q584 q102 q585 (by decide) (Nat.le_of_ble_eq_true rfl) ?_
    exact go_ireturn (pc := 24) rfl dX0_wrongAt_24
  · refine go_aload_n (pc := 9) (j := 0) (i := 0) dX0_wrongAt_9 rfl rfl ?_
    refine go_getI (pc := 10) (n := p0) (ci := 4) (k := 15) fa_X0_480_4 t_p0 rfl dX0_wrongAt_10 ?_
    refine go_goto (pc := 13) (tgt := 20) dX0_wrongAt_13 (by decide) ?_
    refine go_isub (pc := 20) dX0_wrongAt_20 ?_
    refine go_mmaxI (pc := 21) dX0_wrongAt_21 q672 q584 q102 q585 (by decide) (Nat.le_of_ble_eq_true rfl) ?_
    exact go_ireturn (pc := 24) rfl dX0_wrongAt_24

def f_X0_wrong (self : Nat) (p0 : Int32) (p1 : Int32) (u : zM) : Option (Int32 × zM) := bd (f_X0_findVillage self p0 u) fun v1 u1 => oC v1 (some ((-1), u1)) fun n1 => bd (f_X0_wrongAt n1 p1 u1) fun v2 u2 => some (v2, u2)
set_option maxHeartbeats 4000000 in
theorem ct_X0_wrong (self : Nat) (p0 : Int32) (p1 : Int32) (t_self : kd self = 0) : zMet yX0_wrong cX0_wrong 4 (some .int) 3 61 rvI (obT) [.ref self, .int p0, .int p1] (f_X0_wrong self p0 p1) := by
  refine zMet_of (A := [(0, .ref self), (1, .int p0), (2, .int p1)]) (B := []) (ini := false) RX0 rfl (by decide +kernel) (fun h => by cases h) (by simp [lg_sl, Value.category]) (by simp [lv_args, Value.category]) rfl (by simp [lv_args, Value.category]) fun u => ?_
  unfold f_X0_wrong
  refine go_aload_n (pc := 0) (j := 0) (i := 0) dX0_wrong_0 rfl rfl ?_
  refine go_iload_n (pc := 1) (j := 1) (i := 1) dX0_wrong_1 rfl rfl ?_
  refine go_callVR (pc := 2) (ci := 0) (ct_X0_findVillage self p0 t_self) lk_X0_136 rfl rfl rfl (by decide) t_self ⟨by decide, by decide⟩ (Nat.le_of_ble_eq_true rfl) dX0_wrong_2 rfl fun v1 u1 t_v1 => ?_
  refine go_astore_nQ (pc := 5) (j := 3) (r := v1) (i := 3) (A' := [(0, .ref self), (1, .int p0), (2, .int p1), (3, va_rf v1)]) rfl (by decide) rfl rfl rfl dX0_wrong_5 ?_
  refine go_aload_nQ (pc := 6) (j := 3) (r := v1) (i := 3) dX0_wrong_6 rfl rfl ?_
  refine go_ifnonnull (pc := 7) (tgt := 14) dX0_wrong_7 (by decide) (fun e_n1 => ?_) (fun n1 e_n1 => ?_)
  · subst e_n1
    refine go_iconst (pc := 10) (v := (-1)) dX0_wrong_10 (by decide) ?_
    refine go_goto (pc := 11) (tgt := 19) dX0_wrong_11 (by decide) ?_
    exact go_ireturn (pc := 19) rfl dX0_wrong_19
  · have t_n1 := t_v1 n1 e_n1
    subst e_n1
    refine go_aload_n (pc := 14) (j := 3) (i := 3) dX0_wrong_14 rfl rfl ?_
    refine go_iload_n (pc := 15) (j := 2) (i := 2) dX0_wrong_15 rfl rfl ?_
    refine go_callSI (pc := 16) (ct_X0_wrongAt n1 p1 t_n1) lk_X0_483 rfl ⟨by decide, by decide⟩ (Nat.le_of_ble_eq_true rfl) dX0_wrong_16 rfl fun v2 u2 => ?_
    exact go_ireturn (pc := 19) rfl dX0_wrong_19

def f_X0_look_L6 (x0 : Nat) : Nat → Int32 → Int32 → Int32 → zM → Option (Int32 × zM)
  | 0, _, _, _, _ => none
  | n + 1, x1, x2, x3, u => if (mI u x0 15) ≤ x3 then (some (x1, u)) else (lt (mR u x0 0) fun r1 => oB r1 fun n1 => ix x3 (mN u n1) (lt (mR u n1 (xN x3)) fun r2 => oB r2 fun n2 => bd (f_X0_wrongAt n2 1 u) fun v1 u1 => lt (mR u1 x0 0) fun r3 => oB r3 fun n3 => ix x3 (mN u1 n3) (lt (mR u1 n3 (xN x3)) fun r4 => oB r4 fun n4 => bd (f_X0_wrongAt n4 0 u1) fun v2 u2 => lt (fun (z1 : Int32) (z2 : Int32) (u3 : zM) => f_X0_look_L6 x0 n z1 z2 (x3 + 1) u3) fun j1 => if x2 < (v1 - v2) then (j1 x3 (v1 - v2) u2) else (j1 x1 x2 u2))))
section
variable {c0 s0 : Nat} {tbv : List ExceptionTableEntry}
set_option maxHeartbeats 4000000 in
theorem g_X0_look_L6 (x0 : Nat) (t_x0 : kd x0 = 0) : ∀ (n : Nat) (x1 : Int32) (x2 : Int32) (x3 : Int32) (u : zM), Go RX0 cX0_look 5 (some .int) false 2 61 [] (obT) (zQ rvI) c0 s0 6 [(0, .ref x0), (1, .int x1), (2, .int x2), (3, .int x3)] [] [] u (f_X0_look_L6 x0 n x1 x2 x3 u) := by
  intro n
  induction n with
  | zero => intros; exact go_none
  | succ n ih =>
    intro x1 x2 x3 u
    unfold f_X0_look_L6
    refine go_iload_n (pc := 6) (j := 3) (i := 3) dX0_look_6 rfl rfl ?_
    refine go_aload_n (pc := 7) (j := 0) (i := 0) dX0_look_7 rfl rfl ?_
    refine go_getI (pc := 8) (n := x0) (ci := 0) (k := 15) fa_X0_112_0 t_x0 rfl dX0_look_8 ?_
    refine go_icmp_ge (pc := 11) (tgt := 57) dX0_look_11 (by decide) (fun h1 => ?_) (fun h1 => ?_)
    · refine go_iload_n (pc := 57) (j := 1) (i := 1) dX0_look_57 rfl rfl ?_
      exact go_ireturn (pc := 58) rfl dX0_look_58
    · refine go_aload_n (pc := 14) (j := 0) (i := 0) dX0_look_14 rfl rfl ?_
      refine go_getR (pc := 15) (n := x0) (ci := 0) (k := 0) (t := 17) fa_X0_24_0 t_x0 rfl dX0_look_15 fun r1 t_r1 => ?_
      refine go_iload_n (pc := 18) (j := 3) (i := 3) dX0_look_18 rfl rfl ?_
      refine go_oB fun n1 e_n1 => ?_
      have t_n1 := t_r1 n1 e_n1
      subst e_n1
      refine go_aald (pc := 19) (n := n1) (ci := 17) (t := 4) (by decide) (by decide) t_n1 rfl dX0_look_19 fun r2 t_r2 => ?_
      refine go_iconst (pc := 20) (v := 1) dX0_look_20 (by decide) ?_
      refine go_oB fun n2 e_n2 => ?_
      have t_n2 := t_r2 n2 e_n2
      subst e_n2
      refine go_callSI (pc := 21) (ct_X0_wrongAt n2 1 t_n2) lk_X0_483 rfl ⟨by decide, by decide⟩ (Nat.le_of_ble_eq_true rfl) dX0_look_21 rfl fun v1 u1 => ?_
      refine go_aload_n (pc := 24) (j := 0) (i := 0) dX0_look_24 rfl rfl ?_
      refine go_getR (pc := 25) (n := x0) (ci := 0) (k := 0) (t := 17) fa_X0_24_0 t_x0 rfl dX0_look_25 fun r3 t_r3 => ?_
      refine go_iload_n (pc := 28) (j := 3) (i := 3) dX0_look_28 rfl rfl ?_
      refine go_oB fun n3 e_n3 => ?_
      have t_n3 := t_r3 n3 e_n3
      subst e_n3
      refine go_aald (pc := 29) (n := n3) (ci := 17) (t := 4) (by decide) (by decide) t_n3 rfl dX0_look_29 fun r4 t_r4 => ?_
      refine go_iconst (pc := 30) (v := 0) dX0_look_30 (by decide) ?_
      refine go_oB fun n4 e_n4 => ?_
      have t_n4 := t_r4 n4 e_n4
      subst e_n4
      refine go_callSI (pc := 31) (ct_X0_wrongAt n4 0 t_n4) lk_X0_483 rfl ⟨by decide, by decide⟩ (Nat.le_of_ble_eq_true rfl) dX0_look_31 rfl fun v2 u2 => ?_
      refine go_isub (pc := 34) dX0_look_34 ?_
      refine go_istore (pc := 35) (i := 4) (A' := [(0, .ref x0), (1, .int x1), (2, .int x2), (3, .int x3), (4, .int (v1 - v2))]) (by decide) rfl rfl rfl dX0_look_35 ?_
      refine go_iload (pc := 37) (i := 4) dX0_look_37 rfl ?_
      refine go_iload_n (pc := 39) (j := 2) (i := 2) dX0_look_39 rfl rfl ?_
      refine go_join2 (pcx := 51) (α1 := Int32) (α2 := Int32) (fun z1 z2 => [(0, .ref x0), (1, .int z1), (2, .int z2), (3, .int x3)]) (fun z1 z2 => []) (fun z1 z2 => []) (fun z1 z2 => True) (fun z1 z2 u3 _ => ?_) (fun j1 hj1 => ?_)
      · refine go_iinc (pc := 51) (i := 3) (w := 1) (A' := [(0, .ref x0), (1, .int z1), (2, .int z2), (3, .int (x3 + 1))]) rfl (by decide) (by decide) rfl rfl rfl dX0_look_51 ?_
        refine go_goto (pc := 54) (tgt := 6) dX0_look_54 (by decide) ?_
        exact go_weak (A' := [(0, .ref x0), (1, .int z1), (2, .int z2), (3, .int (x3 + 1))]) (B' := []) ⟨rfl, rfl, rfl, rfl, trivial⟩ rfl (fun q h => by cases h) (ih z1 z2 (x3 + 1) u3)
      · refine go_icmp_gt (pc := 40) (tgt := 46) dX0_look_40 (by decide) (fun h2 => ?_) (fun h2 => ?_)
        · refine go_iload (pc := 46) (i := 4) dX0_look_46 rfl ?_
          refine go_istore_n (pc := 48) (j := 2) (i := 2) (A' := [(0, .ref x0), (1, .int x1), (2, .int (v1 - v2)), (3, .int x3), (4, .int (v1 - v2))]) rfl (by decide) rfl rfl rfl dX0_look_48 ?_
          refine go_iload_n (pc := 49) (j := 3) (i := 3) dX0_look_49 rfl rfl ?_
          refine go_istore_n (pc := 50) (j := 1) (i := 1) (A' := [(0, .ref x0), (1, .int x3), (2, .int (v1 - v2)), (3, .int x3), (4, .int (v1 - v2))]) rfl (by decide) rfl rfl rfl dX0_look_50 ?_
          exact go_weak (A' := [(0, .ref x0), (1, .int x3), (2, .int (v1 - v2)), (3, .int x3)]) (B' := []) ⟨rfl, rfl, rfl, rfl, trivial⟩ rfl (fun q h => by cases h) (hj1 x3 (v1 - v2) u2 trivial)
        · refine go_goto (pc := 43) (tgt := 51) dX0_look_43 (by decide) ?_
          exact go_weak (A' := [(0, .ref x0), (1, .int x1), (2, .int x2), (3, .int x3)]) (B' := []) ⟨rfl, rfl, rfl, rfl, trivial⟩ rfl (fun q h => by cases h) (hj1 x1 x2 u2 trivial)
end
def f_X0_look (self : Nat) (u : zM) : Option (Int32 × zM) := f_X0_look_L6 self zFu (-1) 0 0 u
set_option maxHeartbeats 4000000 in
theorem ct_X0_look (self : Nat) (t_self : kd self = 0) : zMet yX0_look cX0_look 5 (some .int) 2 61 rvI (obT) [.ref self] (f_X0_look self) := by
  refine zMet_of (A := [(0, .ref self)]) (B := []) (ini := false) RX0 rfl (by decide +kernel) (fun h => by cases h) (by simp [lg_sl, Value.category]) (by simp [lv_args, Value.category]) rfl (by simp [lv_args, Value.category]) fun u => ?_
  unfold f_X0_look
  refine go_iconst (pc := 0) (v := (-1)) dX0_look_0 (by decide) ?_
  refine go_istore_n (pc := 1) (j := 1) (i := 1) (A' := [(0, .ref self), (1, .int (-1))]) rfl (by decide) rfl rfl rfl dX0_look_1 ?_
  refine go_iconst (pc := 2) (v := 0) dX0_look_2 (by decide) ?_
  refine go_istore_n (pc := 3) (j := 2) (i := 2) (A' := [(0, .ref self), (1, .int (-1)), (2, .int 0)]) rfl (by decide) rfl rfl rfl dX0_look_3 ?_
  refine go_iconst (pc := 4) (v := 0) dX0_look_4 (by decide) ?_
  refine go_istore_n (pc := 5) (j := 3) (i := 3) (A' := [(0, .ref self), (1, .int (-1)), (2, .int 0), (3, .int 0)]) rfl (by decide) rfl rfl rfl dX0_look_5 ?_
  exact go_weak (A' := [(0, .ref self), (1, .int (-1)), (2, .int 0), (3, .int 0)]) (B' := []) ⟨rfl, rfl, rfl, rfl, trivial⟩ rfl (fun q h => by cases h) (g_X0_look_L6 self t_self zFu (-1) 0 0 u)

