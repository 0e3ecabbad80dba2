set_option maxRecDepth 100000
def f_X0_gift (self : Nat) (p0 : Int32) (p1 : Int32) (p2 : Int32) (u : zM) : Option (Int32 × zM) := bd (f_X0_in p0 1 99 u) fun v1 u1 => if v1 = 0 then (some ((-1), u1)) else (bd (f_X0_findHouse self p1 u1) fun v2 u2 => oC v2 (some ((-1), u2)) fun n1 => bd (f_X0_in p2 0 2 u2) fun v3 u3 => if v3 = 0 then (some ((-1), u3)) else (if (mI u3 self 34) = 8 then (some ((-1), u3)) else (lt (mR u3 self 28) fun r1 => oB r1 fun n2 => ix (mI u3 self 34) (mN u3 n2) (lt (sI u3 n2 (xN (mI u3 self 34)) p0) fun u4 => lt (mR u4 self 29) fun r2 => oB r2 fun n3 => ix (mI u4 self 34) (mN u4 n3) (lt (sI u4 n3 (xN (mI u4 self 34)) p1) fun u5 => lt (mR u5 self 30) fun r3 => oB r3 fun n4 => ix (mI u5 self 34) (mN u5 n4) (lt (sI u5 n4 (xN (mI u5 self 34)) p2) fun u6 => lt (sI u6 self 34 ((mI u6 self 34) + 1)) fun u7 => some (((mI u7 self 34) - 1), u7)))))))
set_option maxHeartbeats 4000000 in
theorem ct_X0_gift (self : Nat) (p0 : Int32) (p1 : Int32) (p2 : Int32) (t_self : kd self = 0) : zMet yX0_gift cX0_gift 4 (some .int) 3 43 rvI (obT) [.ref self, .int p0, .int p1, .int p2] (f_X0_gift self p0 p1 p2) := by
  refine zMet_of (A := [(0, .ref self), (1, .int p0), (2, .int p1), (3, .int p2)]) (B := []) (ini := false) RX0 rfl (by decide +kernel) (fun h => by cases h) (by simp [lg_sl, Value.category]) (by simp [lv_args, Value.category]) rfl (by simp [lv_args, Value.category]) fun u => ?_
  unfold f_X0_gift
  refine go_iload_n (pc := 0) (j := 1) (i := 1) dX0_gift_0 rfl rfl ?_
  refine go_iconst (pc := 1) (v := 1) dX0_gift_1 (by decide) ?_
  refine go_bipush (pc := 2) (v := 99) dX0_gift_2 (by decide) ?_
  refine go_callSI (pc := 4) (ct_X0_in p0 1 99) lk_X0_116 rfl ⟨by decide, by decide⟩ (Nat.le_of_ble_eq_true rfl) dX0_gift_4 rfl fun v1 u1 => ?_
  refine go_if_eq (pc := 7) (tgt := 36) dX0_gift_7 (by decide) (fun h1 => ?_) (fun h1 => ?_)
  · refine go_iconst (pc := 36) (v := (-1)) dX0_gift_36 (by decide) ?_
    exact go_ireturn (pc := 37) rfl dX0_gift_37
  · refine go_aload_n (pc := 10) (j := 0) (i := 0) dX0_gift_10 rfl rfl ?_
    refine go_iload_n (pc := 11) (j := 2) (i := 2) dX0_gift_11 rfl rfl ?_
    refine go_callVR (pc := 12) (ci := 0) (ct_X0_findHouse self p1 t_self) lk_X0_157 rfl rfl rfl (by decide) t_self ⟨by decide, by decide⟩ (Nat.le_of_ble_eq_true rfl) dX0_gift_12 rfl fun v2 u2 t_v2 => ?_
    refine go_ifnull (pc := 15) (tgt := 36) dX0_gift_15 (by decide) (fun e_n1 => ?_) (fun n1 e_n1 => ?_)
    · subst e_n1
      refine go_iconst (pc := 36) (v := (-1)) dX0_gift_36 (by decide) ?_
      exact go_ireturn (pc := 37) rfl dX0_gift_37
    · have t_n1 := t_v2 n1 e_n1
      subst e_n1
      refine go_iload_n (pc := 18) (j := 3) (i := 3) dX0_gift_18 rfl rfl ?_
      refine go_iconst (pc := 19) (v := 0) dX0_gift_19 (by decide) ?_
      refine go_iconst (pc := 20) (v := 2) dX0_gift_20 (by decide) ?_
      refine go_callSI (pc := 21) (ct_X0_in p2 0 2) lk_X0_116 rfl ⟨by decide, by decide⟩ (Nat.le_of_ble_eq_true rfl) dX0_gift_21 rfl fun v3 u3 => ?_
      refine go_if_eq (pc := 24) (tgt := 36) dX0_gift_24 (by decide) (fun h2 => ?_) (fun h2 => ?_)
      · refine go_iconst (pc := 36) (v := (-1)) dX0_gift_36 (by decide) ?_
        exact go_ireturn (pc := 37) rfl dX0_gift_37
      · refine go_aload_n (pc := 27) (j := 0) (i := 0) dX0_gift_27 rfl rfl ?_
        refine go_getI (pc := 28) (n := self) (ci := 0) (k := 34) fa_X0_487_0 t_self rfl dX0_gift_28 ?_
        refine go_bipush (pc := 31) (v := 8) dX0_gift_31 (by decide) ?_
        refine go_icmp_ne (pc := 33) (tgt := 38) dX0_gift_33 (by decide) (fun h3 => ?_) (fun h3 => ?_)
        · refine go_iconst (pc := 36) (v := (-1)) dX0_gift_36 (by decide) ?_
          exact go_ireturn (pc := 37) rfl dX0_gift_37
        · refine go_aload_n (pc := 38) (j := 0) (i := 0) dX0_gift_38 rfl rfl ?_
          refine go_getR (pc := 39) (n := self) (ci := 0) (k := 28) (t := 13) fa_X0_94_0 t_self rfl dX0_gift_39 fun r1 t_r1 => ?_
          refine go_aload_n (pc := 42) (j := 0) (i := 0) dX0_gift_42 rfl rfl ?_
          refine go_getI (pc := 43) (n := self) (ci := 0) (k := 34) fa_X0_487_0 t_self rfl dX0_gift_43 ?_
          refine go_iload_n (pc := 46) (j := 1) (i := 1) dX0_gift_46 rfl rfl ?_
          refine go_oB fun n2 e_n2 => ?_
          have t_n2 := t_r1 n2 e_n2
          subst e_n2
          refine go_iast (pc := 47) t_n2 dX0_gift_47 fun u4 => ?_
          refine go_aload_n (pc := 48) (j := 0) (i := 0) dX0_gift_48 rfl rfl ?_
          refine go_getR (pc := 49) (n := self) (ci := 0) (k := 29) (t := 13) fa_X0_97_0 t_self rfl dX0_gift_49 fun r2 t_r2 => ?_
          refine go_aload_n (pc := 52) (j := 0) (i := 0) dX0_gift_52 rfl rfl ?_
          refine go_getI (pc := 53) (n := self) (ci := 0) (k := 34) fa_X0_487_0 t_self rfl dX0_gift_53 ?_
          refine go_iload_n (pc := 56) (j := 2) (i := 2) dX0_gift_56 rfl rfl ?_
          refine go_oB fun n3 e_n3 => ?_
          have t_n3 := t_r2 n3 e_n3
          subst e_n3
          refine go_iast (pc := 57) t_n3 dX0_gift_57 fun u5 => ?_
          refine go_aload_n (pc := 58) (j := 0) (i := 0) dX0_gift_58 rfl rfl ?_
          refine go_getR (pc := 59) (n := self) (ci := 0) (k := 30) (t := 13) fa_X0_100_0 t_self rfl dX0_gift_59 fun r3 t_r3 => ?_
          refine go_aload_n (pc := 62) (j := 0) (i := 0) dX0_gift_62 rfl rfl ?_
          refine go_getI (pc := 63) (n := self) (ci := 0) (k := 34) fa_X0_487_0 t_self rfl dX0_gift_63 ?_
          refine go_iload_n (pc := 66) (j := 3) (i := 3) dX0_gift_66 rfl rfl ?_
          refine go_oB fun n4 e_n4 => ?_
          have t_n4 := t_r3 n4 e_n4
          subst e_n4
          refine go_iast (pc := 67) t_n4 dX0_gift_67 fun u6 => ?_
          refine go_aload_n (pc := 68) (j := 0) (i := 0) dX0_gift_68 rfl rfl ?_
          refine go_dupA (pc := 69) dX0_gift_69 ?_
          refine go_getI (pc := 70) (n := self) (ci := 0) (k := 34) fa_X0_487_0 t_self rfl dX0_gift_70 ?_
          refine go_iconst (pc := 73) (v := 1) dX0_gift_73 (by decide) ?_
          refine go_iadd (pc := 74) dX0_gift_74 ?_
          refine go_putI (pc := 75) (n := self) (ci := 0) (k := 34) (v := ((mI u6 self 34) + 1)) pa_X0_487_0 (fun h => by cases h) t_self rfl zKeep_int dX0_gift_75 fun u7 => ?_
          refine go_aload_n (pc := 78) (j := 0) (i := 0) dX0_gift_78 rfl rfl ?_
          refine go_getI (pc := 79) (n := self) (ci := 0) (k := 34) fa_X0_487_0 t_self rfl dX0_gift_79 ?_
          refine go_iconst (pc := 82) (v := 1) dX0_gift_82 (by decide) ?_
          refine go_isub (pc := 83) dX0_gift_83 ?_
          exact go_ireturn (pc := 84) rfl dX0_gift_84

def f_X0_forget (self : Nat) (u : zM) : Option (Int32 × zM) := lt (sI u self 34 0) fun u1 => some ((mI u self 34), u1)
set_option maxHeartbeats 4000000 in
theorem ct_X0_forget (self : Nat) (t_self : kd self = 0) : zMet yX0_forget cX0_forget 2 (some .int) 1 0 rvI (obT) [.ref self] (f_X0_forget self) := by
  refine zMet_of (A := [(0, .ref self)]) (B := []) (ini := false) RX0 rfl (by decide +kernel) (fun h => by cases h) (by simp [lg_sl, Value.category]) (by simp [lv_args, Value.category]) rfl (by simp [lv_args, Value.category]) fun u => ?_
  unfold f_X0_forget
  refine go_aload_n (pc := 0) (j := 0) (i := 0) dX0_forget_0 rfl rfl ?_
  refine go_getI (pc := 1) (n := self) (ci := 0) (k := 34) fa_X0_487_0 t_self rfl dX0_forget_1 ?_
  refine go_istore_n (pc := 4) (j := 1) (i := 1) (A' := [(0, .ref self), (1, .int (mI u self 34))]) rfl (by decide) rfl rfl rfl dX0_forget_4 ?_
  refine go_aload_n (pc := 5) (j := 0) (i := 0) dX0_forget_5 rfl rfl ?_
  refine go_iconst (pc := 6) (v := 0) dX0_forget_6 (by decide) ?_
  refine go_putI (pc := 7) (n := self) (ci := 0) (k := 34) (v := 0) pa_X0_487_0 (fun h => by cases h) t_self rfl zKeep_int dX0_forget_7 fun u1 => ?_
  refine go_iload_n (pc := 10) (j := 1) (i := 1) dX0_forget_10 rfl rfl ?_
  exact go_ireturn (pc := 11) rfl dX0_forget_11

def f_X0_spunWith_L2 (x0 : Nat) (x1 : Int32) (k46 : zM → Option (Int32 × zM)) : Nat → Int32 → zM → Option (Int32 × zM)
  | 0, _, _ => none
  | n + 1, x2, u => if (mI u x0 16) ≤ x2 then (k46 u) else (lt (mR u x0 31) fun r1 => lt (mR u x0 1) fun r2 => oB r2 fun n1 => ix x2 (mN u n1) (lt (mR u n1 (xN x2)) fun r3 => oB r3 fun n2 => oB r1 fun n3 => ix x2 (mN u n3) (lt (sI u n3 (xN x2) (mI u n2 4)) fun u1 => lt (mR u1 x0 32) fun r4 => lt (mR u1 x0 1) fun r5 => oB r5 fun n4 => ix x2 (mN u1 n4) (lt (mR u1 n4 (xN x2)) fun r6 => oB r6 fun n5 => oB r4 fun n6 => ix x2 (mN u1 n6) (lt (sI u1 n6 (xN x2) (mI u1 n5 5)) fun u2 => f_X0_spunWith_L2 x0 x1 k46 n (x2 + 1) u2)))))
section
variable {c0 s0 : Nat} {tbv : List ExceptionTableEntry}
set_option maxHeartbeats 4000000 in
theorem g_X0_spunWith_L2 (x0 : Nat) (x1 : Int32) (k46 : zM → Option (Int32 × zM)) (t_x0 : kd x0 = 0) (hk46 : ∀ (u : zM), Go RX0 cX0_spunWith 8 (some .int) false 2 63 [] (obT) (zQ rvI) c0 s0 46 [(0, .ref x0), (1, .int x1)] [] [] u (k46 u)) : ∀ (n : Nat) (x2 : Int32) (u : zM), Go RX0 cX0_spunWith 8 (some .int) false 2 63 [] (obT) (zQ rvI) c0 s0 2 [(0, .ref x0), (1, .int x1), (2, .int x2)] [] [] u (f_X0_spunWith_L2 x0 x1 k46 n x2 u) := by
  intro n
  induction n with
  | zero => intros; exact go_none
  | succ n ih =>
    intro x2 u
    unfold f_X0_spunWith_L2
    refine go_iload_n (pc := 2) (j := 2) (i := 2) dX0_spunWith_2 rfl rfl ?_
    refine go_aload_n (pc := 3) (j := 0) (i := 0) dX0_spunWith_3 rfl rfl ?_
    refine go_getI (pc := 4) (n := x0) (ci := 0) (k := 16) fa_X0_120_0 t_x0 rfl dX0_spunWith_4 ?_
    refine go_icmp_ge (pc := 7) (tgt := 46) dX0_spunWith_7 (by decide) (fun h1 => ?_) (fun h1 => ?_)
    · exact go_weak (A' := [(0, .ref x0), (1, .int x1)]) (B' := []) ⟨rfl, rfl, trivial⟩ rfl (fun q h => by cases h) (hk46 u)
    · refine go_aload_n (pc := 10) (j := 0) (i := 0) dX0_spunWith_10 rfl rfl ?_
      refine go_getR (pc := 11) (n := x0) (ci := 0) (k := 31) (t := 13) fa_X0_103_0 t_x0 rfl dX0_spunWith_11 fun r1 t_r1 => ?_
      refine go_iload_n (pc := 14) (j := 2) (i := 2) dX0_spunWith_14 rfl rfl ?_
      refine go_aload_n (pc := 15) (j := 0) (i := 0) dX0_spunWith_15 rfl rfl ?_
      refine go_getR (pc := 16) (n := x0) (ci := 0) (k := 1) (t := 18) fa_X0_30_0 t_x0 rfl dX0_spunWith_16 fun r2 t_r2 => ?_
      refine go_iload_n (pc := 19) (j := 2) (i := 2) dX0_spunWith_19 rfl rfl ?_
      refine go_oB fun n1 e_n1 => ?_
      have t_n1 := t_r2 n1 e_n1
      subst e_n1
      refine go_aald (pc := 20) (n := n1) (ci := 18) (t := 5) (by decide) (by decide) t_n1 rfl dX0_spunWith_20 fun r3 t_r3 => ?_
      refine go_oB fun n2 e_n2 => ?_
      have t_n2 := t_r3 n2 e_n2
      subst e_n2
      refine go_getI (pc := 21) (n := n2) (ci := 5) (k := 4) fa_X0_202_5 t_n2 rfl dX0_spunWith_21 ?_
      refine go_oB fun n3 e_n3 => ?_
      have t_n3 := t_r1 n3 e_n3
      subst e_n3
      refine go_iast (pc := 24) t_n3 dX0_spunWith_24 fun u1 => ?_
      refine go_aload_n (pc := 25) (j := 0) (i := 0) dX0_spunWith_25 rfl rfl ?_
      refine go_getR (pc := 26) (n := x0) (ci := 0) (k := 32) (t := 13) fa_X0_106_0 t_x0 rfl dX0_spunWith_26 fun r4 t_r4 => ?_
      refine go_iload_n (pc := 29) (j := 2) (i := 2) dX0_spunWith_29 rfl rfl ?_
      refine go_aload_n (pc := 30) (j := 0) (i := 0) dX0_spunWith_30 rfl rfl ?_
      refine go_getR (pc := 31) (n := x0) (ci := 0) (k := 1) (t := 18) fa_X0_30_0 t_x0 rfl dX0_spunWith_31 fun r5 t_r5 => ?_
      refine go_iload_n (pc := 34) (j := 2) (i := 2) dX0_spunWith_34 rfl rfl ?_
      refine go_oB fun n4 e_n4 => ?_
      have t_n4 := t_r5 n4 e_n4
      subst e_n4
      refine go_aald (pc := 35) (n := n4) (ci := 18) (t := 5) (by decide) (by decide) t_n4 rfl dX0_spunWith_35 fun r6 t_r6 => ?_
      refine go_oB fun n5 e_n5 => ?_
      have t_n5 := t_r6 n5 e_n5
      subst e_n5
      refine go_getI (pc := 36) (n := n5) (ci := 5) (k := 5) fa_X0_237_5 t_n5 rfl dX0_spunWith_36 ?_
      refine go_oB fun n6 e_n6 => ?_
      have t_n6 := t_r4 n6 e_n6
      subst e_n6
      refine go_iast (pc := 39) t_n6 dX0_spunWith_39 fun u2 => ?_
      refine go_iinc (pc := 40) (i := 2) (w := 1) (A' := [(0, .ref x0), (1, .int x1), (2, .int (x2 + 1))]) rfl (by decide) (by decide) rfl rfl rfl dX0_spunWith_40 ?_
      refine go_goto (pc := 43) (tgt := 2) dX0_spunWith_43 (by decide) ?_
      exact go_weak (A' := [(0, .ref x0), (1, .int x1), (2, .int (x2 + 1))]) (B' := []) ⟨rfl, rfl, rfl, trivial⟩ rfl (fun q h => by cases h) (ih (x2 + 1) u2)
end
def f_X0_spunWith_L48 (x0 : Nat) (x1 : Int32) (k77 : zM → Option (Int32 × zM)) : Nat → Int32 → zM → Option (Int32 × zM)
  | 0, _, _ => none
  | n + 1, x2, u => if (mI u x0 15) ≤ x2 then (k77 u) else (lt (mR u x0 33) fun r7 => lt (mR u x0 0) fun r8 => oB r8 fun n7 => ix x2 (mN u n7) (lt (mR u n7 (xN x2)) fun r9 => oB r9 fun n8 => oB r7 fun n9 => ix x2 (mN u n9) (lt (sI u n9 (xN x2) (mI u n8 4)) fun u4 => f_X0_spunWith_L48 x0 x1 k77 n (x2 + 1) u4)))
section
variable {c0 s0 : Nat} {tbv : List ExceptionTableEntry}
set_option maxHeartbeats 4000000 in
theorem g_X0_spunWith_L48 (x0 : Nat) (x1 : Int32) (k77 : zM → Option (Int32 × zM)) (t_x0 : kd x0 = 0) (hk77 : ∀ (u : zM), Go RX0 cX0_spunWith 8 (some .int) false 2 63 [] (obT) (zQ rvI) c0 s0 77 [(0, .ref x0), (1, .int x1)] [] [] u (k77 u)) : ∀ (n : Nat) (x2 : Int32) (u : zM), Go RX0 cX0_spunWith 8 (some .int) false 2 63 [] (obT) (zQ rvI) c0 s0 48 [(0, .ref x0), (1, .int x1), (2, .int x2)] [] [] u (f_X0_spunWith_L48 x0 x1 k77 n x2 u) := by
  intro n
  induction n with
  | zero => intros; exact go_none
  | succ n ih =>
    intro x2 u
    unfold f_X0_spunWith_L48
    refine go_iload_n (pc := 48) (j := 2) (i := 2) dX0_spunWith_48 rfl rfl ?_
    refine go_aload_n (pc := 49) (j := 0) (i := 0) dX0_spunWith_49 rfl rfl ?_
    refine go_getI (pc := 50) (n := x0) (ci := 0) (k := 15) fa_X0_112_0 t_x0 rfl dX0_spunWith_50 ?_
    refine go_icmp_ge (pc := 53) (tgt := 77) dX0_spunWith_53 (by decide) (fun h2 => ?_) (fun h2 => ?_)
    · exact go_weak (A' := [(0, .ref x0), (1, .int x1)]) (B' := []) ⟨rfl, rfl, trivial⟩ rfl (fun q h => by cases h) (hk77 u)
    · refine go_aload_n (pc := 56) (j := 0) (i := 0) dX0_spunWith_56 rfl rfl ?_
      refine go_getR (pc := 57) (n := x0) (ci := 0) (k := 33) (t := 13) fa_X0_109_0 t_x0 rfl dX0_spunWith_57 fun r7 t_r7 => ?_
      refine go_iload_n (pc := 60) (j := 2) (i := 2) dX0_spunWith_60 rfl rfl ?_
      refine go_aload_n (pc := 61) (j := 0) (i := 0) dX0_spunWith_61 rfl rfl ?_
      refine go_getR (pc := 62) (n := x0) (ci := 0) (k := 0) (t := 17) fa_X0_24_0 t_x0 rfl dX0_spunWith_62 fun r8 t_r8 => ?_
      refine go_iload_n (pc := 65) (j := 2) (i := 2) dX0_spunWith_65 rfl rfl ?_
      refine go_oB fun n7 e_n7 => ?_
      have t_n7 := t_r8 n7 e_n7
      subst e_n7
      refine go_aald (pc := 66) (n := n7) (ci := 17) (t := 4) (by decide) (by decide) t_n7 rfl dX0_spunWith_66 fun r9 t_r9 => ?_
      refine go_oB fun n8 e_n8 => ?_
      have t_n8 := t_r9 n8 e_n8
      subst e_n8
      refine go_getI (pc := 67) (n := n8) (ci := 4) (k := 4) fa_X0_180_4 t_n8 rfl dX0_spunWith_67 ?_
      refine go_oB fun n9 e_n9 => ?_
      have t_n9 := t_r7 n9 e_n9
      subst e_n9
      refine go_iast (pc := 70) t_n9 dX0_spunWith_70 fun u4 => ?_
      refine go_iinc (pc := 71) (i := 2) (w := 1) (A' := [(0, .ref x0), (1, .int x1), (2, .int (x2 + 1))]) rfl (by decide) (by decide) rfl rfl rfl dX0_spunWith_71 ?_
      refine go_goto (pc := 74) (tgt := 48) dX0_spunWith_74 (by decide) ?_
      exact go_weak (A' := [(0, .ref x0), (1, .int x1), (2, .int (x2 + 1))]) (B' := []) ⟨rfl, rfl, rfl, trivial⟩ rfl (fun q h => by cases h) (ih (x2 + 1) u4)
end
def f_X0_spunWith_L79 (x0 : Nat) (x1 : Int32) (k209 : zM → Option (Int32 × zM)) : Nat → Int32 → zM → Option (Int32 × zM)
  | 0, _, _ => none
  | n + 1, x2, u => if (mI u x0 34) ≤ x2 then (k209 u) else (lt (fun (u6 : zM) => f_X0_spunWith_L79 x0 x1 k209 n (x2 + 1) u6) fun j1 => if ((x1 >>> (x2 &&& 31)) &&& 1) = 0 then (j1 u) else (lt (mR u x0 29) fun r10 => oB r10 fun n10 => ix x2 (mN u n10) (lt (mR u x0 1) fun r11 => oB r11 fun n11 => ix (mI u n10 (xN x2)) (mN u n11) (lt (mR u n11 (xN (mI u n10 (xN x2)))) fun r12 => oB r12 fun n12 => lt (mR u n12 3) fun r13 => oB r13 fun n13 => lt (mR u x0 30) fun r14 => oB r14 fun n14 => ix x2 (mN u n14) (if (mI u n14 (xN x2)) = 0 then (lt (mR u x0 31) fun r15 => lt (mR u x0 31) fun r16 => oB r16 fun n15 => ix (mI u n10 (xN x2)) (mN u n15) (oB r15 fun n16 => ix (mI u n10 (xN x2)) (mN u n16) (lt (sI u n16 (xN (mI u n10 (xN x2))) (if ((mI u n15 (xN (mI u n10 (xN x2)))) + 1) < 5 then ((mI u n15 (xN (mI u n10 (xN x2)))) + 1) else 5)) fun u7 => j1 u7))) else (lt (mR u x0 30) fun r17 => oB r17 fun n17 => ix x2 (mN u n17) (if (mI u n17 (xN x2)) = 1 then (lt (mR u x0 32) fun r18 => lt (mR u x0 32) fun r19 => oB r19 fun n18 => ix (mI u n10 (xN x2)) (mN u n18) (oB r18 fun n19 => ix (mI u n10 (xN x2)) (mN u n19) (lt (sI u n19 (xN (mI u n10 (xN x2))) (if ((mI u n18 (xN (mI u n10 (xN x2)))) + 1) < 9 then ((mI u n18 (xN (mI u n10 (xN x2)))) + 1) else 9)) fun u8 => j1 u8))) else (lt (mR u x0 33) fun r20 => lt (mR u x0 33) fun r21 => oB r21 fun n20 => ix (mI u n13 0) (mN u n20) (oB r20 fun n21 => ix (mI u n13 0) (mN u n21) (lt (sI u n21 (xN (mI u n13 0)) (if ((mI u n20 (xN (mI u n13 0))) + 5) < 9999 then ((mI u n20 (xN (mI u n13 0))) + 5) else 9999)) fun u9 => j1 u9))))))))))
section
variable {c0 s0 : Nat} {tbv : List ExceptionTableEntry}
set_option maxHeartbeats 4000000 in
theorem g_X0_spunWith_L79 (x0 : Nat) (x1 : Int32) (k209 : zM → Option (Int32 × zM)) (t_x0 : kd x0 = 0) (hk209 : ∀ (u : zM), Go RX0 cX0_spunWith 8 (some .int) false 2 63 [] (obT) (zQ rvI) c0 s0 209 [(0, .ref x0)] [] [] u (k209 u)) : ∀ (n : Nat) (x2 : Int32) (u : zM), Go RX0 cX0_spunWith 8 (some .int) false 2 63 [] (obT) (zQ rvI) c0 s0 79 [(0, .ref x0), (1, .int x1), (2, .int x2)] [] [] u (f_X0_spunWith_L79 x0 x1 k209 n x2 u) := by
  intro n
  induction n with
  | zero => intros; exact go_none
  | succ n ih =>
    intro x2 u
    unfold f_X0_spunWith_L79
    refine go_iload_n (pc := 79) (j := 2) (i := 2) dX0_spunWith_79 rfl rfl ?_
    refine go_aload_n (pc := 80) (j := 0) (i := 0) dX0_spunWith_80 rfl rfl ?_
    refine go_getI (pc := 81) (n := x0) (ci := 0) (k := 34) fa_X0_487_0 t_x0 rfl dX0_spunWith_81 ?_
    refine go_icmp_ge (pc := 84) (tgt := 209) dX0_spunWith_84 (by decide) (fun h3 => ?_) (fun h3 => ?_)
    · exact go_weak (A' := [(0, .ref x0)]) (B' := []) ⟨rfl, trivial⟩ rfl (fun q h => by cases h) (hk209 u)
    · refine go_iload_n (pc := 87) (j := 1) (i := 1) dX0_spunWith_87 rfl rfl ?_
      refine go_iload_n (pc := 88) (j := 2) (i := 2) dX0_spunWith_88 rfl rfl ?_
      refine go_ishr (pc := 89) dX0_spunWith_89 ?_
      refine go_iconst (pc := 90) (v := 1) dX0_spunWith_90 (by decide) ?_
      refine go_iand (pc := 91) dX0_spunWith_91 ?_
      refine go_join0 (pcx := 203) ([(0, .ref x0), (1, .int x1), (2, .int x2)]) ([]) ([]) (True) (fun u6 _ => ?_) (fun j1 hj1 => ?_)
      · refine go_iinc (pc := 203) (i := 2) (w := 1) (A' := [(0, .ref x0), (1, .int x1), (2, .int (x2 + 1))]) rfl (by decide) (by decide) rfl rfl rfl dX0_spunWith_203 ?_
        refine go_goto (pc := 206) (tgt := 79) dX0_spunWith_206 (by decide) ?_
        exact go_weak (A' := [(0, .ref x0), (1, .int x1), (2, .int (x2 + 1))]) (B' := []) ⟨rfl, rfl, rfl, trivial⟩ rfl (fun q h => by cases h) (ih (x2 + 1) u6)
      · refine go_if_ne (pc := 92) (tgt := 98) dX0_spunWith_92 (by decide) (fun h4 => ?_) (fun h4 => ?_)
        · refine go_goto (pc := 95) (tgt := 203) dX0_spunWith_95 (by decide) ?_
          exact go_weak (A' := [(0, .ref x0), (1, .int x1), (2, .int x2)]) (B' := []) ⟨rfl, rfl, rfl, trivial⟩ rfl (fun q h => by cases h) (hj1 u trivial)
        · refine go_aload_n (pc := 98) (j := 0) (i := 0) dX0_spunWith_98 rfl rfl ?_
          refine go_getR (pc := 99) (n := x0) (ci := 0) (k := 29) (t := 13) fa_X0_97_0 t_x0 rfl dX0_spunWith_99 fun r10 t_r10 => ?_
          refine go_iload_n (pc := 102) (j := 2) (i := 2) dX0_spunWith_102 rfl rfl ?_
          refine go_oB fun n10 e_n10 => ?_
          have t_n10 := t_r10 n10 e_n10
          subst e_n10
          refine go_iald (pc := 103) t_n10 dX0_spunWith_103 ?_
          refine go_istore_n (pc := 104) (j := 3) (i := 3) (A' := [(0, .ref x0), (1, .int x1), (2, .int x2), (3, .int (mI u n10 (xN x2)))]) rfl (by decide) rfl rfl rfl dX0_spunWith_104 ?_
          refine go_aload_n (pc := 105) (j := 0) (i := 0) dX0_spunWith_105 rfl rfl ?_
          refine go_getR (pc := 106) (n := x0) (ci := 0) (k := 1) (t := 18) fa_X0_30_0 t_x0 rfl dX0_spunWith_106 fun r11 t_r11 => ?_
          refine go_iload_n (pc := 109) (j := 3) (i := 3) dX0_spunWith_109 rfl rfl ?_
          refine go_oB fun n11 e_n11 => ?_
          have t_n11 := t_r11 n11 e_n11
          subst e_n11
          refine go_aald (pc := 110) (n := n11) (ci := 18) (t := 5) (by decide) (by decide) t_n11 rfl dX0_spunWith_110 fun r12 t_r12 => ?_
          refine go_oB fun n12 e_n12 => ?_
          have t_n12 := t_r12 n12 e_n12
          subst e_n12
          refine go_getR (pc := 111) (n := n12) (ci := 5) (k := 3) (t := 4) fa_X0_240_5 t_n12 rfl dX0_spunWith_111 fun r13 t_r13 => ?_
          refine go_oB fun n13 e_n13 => ?_
          have t_n13 := t_r13 n13 e_n13
          subst e_n13
          refine go_getI (pc := 114) (n := n13) (ci := 4) (k := 0) fa_X0_144_4 t_n13 rfl dX0_spunWith_114 ?_
          refine go_istore (pc := 117) (i := 4) (A' := [(0, .ref x0), (1, .int x1), (2, .int x2), (3, .int (mI u n10 (xN x2))), (4, .int (mI u n13 0))]) (by decide) rfl rfl rfl dX0_spunWith_117 ?_
          refine go_aload_n (pc := 119) (j := 0) (i := 0) dX0_spunWith_119 rfl rfl ?_
          refine go_getR (pc := 120) (n := x0) (ci := 0) (k := 30) (t := 13) fa_X0_100_0 t_x0 rfl dX0_spunWith_120 fun r14 t_r14 => ?_
          refine go_iload_n (pc := 123) (j := 2) (i := 2) dX0_spunWith_123 rfl rfl ?_
          refine go_oB fun n14 e_n14 => ?_
          have t_n14 := t_r14 n14 e_n14
          subst e_n14
          refine go_iald (pc := 124) t_n14 dX0_spunWith_124 ?_
          refine go_if_ne (pc := 125) (tgt := 149) dX0_spunWith_125 (by decide) (fun h5 => ?_) (fun h5 => ?_)
          · refine go_aload_n (pc := 128) (j := 0) (i := 0) dX0_spunWith_128 rfl rfl ?_
            refine go_getR (pc := 129) (n := x0) (ci := 0) (k := 31) (t := 13) fa_X0_103_0 t_x0 rfl dX0_spunWith_129 fun r15 t_r15 => ?_
            refine go_iload_n (pc := 132) (j := 3) (i := 3) dX0_spunWith_132 rfl rfl ?_
            refine go_iconst (pc := 133) (v := 5) dX0_spunWith_133 (by decide) ?_
            refine go_aload_n (pc := 134) (j := 0) (i := 0) dX0_spunWith_134 rfl rfl ?_
            refine go_getR (pc := 135) (n := x0) (ci := 0) (k := 31) (t := 13) fa_X0_103_0 t_x0 rfl dX0_spunWith_135 fun r16 t_r16 => ?_
            refine go_iload_n (pc := 138) (j := 3) (i := 3) dX0_spunWith_138 rfl rfl ?_
            refine go_oB fun n15 e_n15 => ?_
            have t_n15 := t_r16 n15 e_n15
            subst e_n15
            refine go_iald (pc := 139) t_n15 dX0_spunWith_139 ?_
            refine go_iconst (pc := 140) (v := 1) dX0_spunWith_140 (by decide) ?_
            refine go_iadd (pc := 141) dX0_spunWith_141 ?_
            refine go_mminI (pc := 142) dX0_spunWith_142 q568 q569 q102 q570 (by decide) (by simp [cat_rf, cat_int, cat_ref, cat_long]) ?_
            refine go_oB fun n16 e_n16 => ?_
            have t_n16 := t_r15 n16 e_n16
            subst e_n16
            refine go_iast (pc := 145) t_n16 dX0_spunWith_145 fun u7 => ?_
            refine go_goto (pc := 146) (tgt := 203) dX0_spunWith_146 (by decide) ?_
            exact go_weak (A' := [(0, .ref x0), (1, .int x1), (2, .int x2)]) (B' := []) ⟨rfl, rfl, rfl, trivial⟩ rfl (fun q h => by cases h) (hj1 u7 trivial)
          · refine go_aload_n (pc := 149) (j := 0) (i := 0) dX0_spunWith_149 rfl rfl ?_
            refine go_getR (pc := 150) (n := x0) (ci := 0) (k := 30) (t := 13) fa_X0_100_0 t_x0 rfl dX0_spunWith_150 fun r17 t_r17 => ?_
            refine go_iload_n (pc := 153) (j := 2) (i := 2) dX0_spunWith_153 rfl rfl ?_
            refine go_oB fun n17 e_n17 => ?_
            have t_n17 := t_r17 n17 e_n17
            subst e_n17
            refine go_iald (pc := 154) t_n17 dX0_spunWith_154 ?_
            refine go_iconst (pc := 155) (v := 1) dX0_spunWith_155 (by decide) ?_
            refine go_icmp_ne (pc := 156) (tgt := 181) dX0_spunWith_156 (by decide) (fun h6 => ?_) (fun h6 => ?_)
            · refine go_aload_n (pc := 159) (j := 0) (i := 0) dX0_spunWith_159 rfl rfl ?_
              refine go_getR (pc := 160) (n := x0) (ci := 0) (k := 32) (t := 13) fa_X0_106_0 t_x0 rfl dX0_spunWith_160 fun r18 t_r18 => ?_
              refine go_iload_n (pc := 163) (j := 3) (i := 3) dX0_spunWith_163 rfl rfl ?_
              refine go_bipush (pc := 164) (v := 9) dX0_spunWith_164 (by decide) ?_
              refine go_aload_n (pc := 166) (j := 0) (i := 0) dX0_spunWith_166 rfl rfl ?_
              refine go_getR (pc := 167) (n := x0) (ci := 0) (k := 32) (t := 13) fa_X0_106_0 t_x0 rfl dX0_spunWith_167 fun r19 t_r19 => ?_
              refine go_iload_n (pc := 170) (j := 3) (i := 3) dX0_spunWith_170 rfl rfl ?_
              refine go_oB fun n18 e_n18 => ?_
              have t_n18 := t_r19 n18 e_n18
              subst e_n18
              refine go_iald (pc := 171) t_n18 dX0_spunWith_171 ?_
              refine go_iconst (pc := 172) (v := 1) dX0_spunWith_172 (by decide) ?_
              refine go_iadd (pc := 173) dX0_spunWith_173 ?_
              refine go_mminI (pc := 174) dX0_spunWith_174 q568 q569 q102 q570 (by decide) (by simp [cat_rf, cat_int, cat_ref, cat_long]) ?_
              refine go_oB fun n19 e_n19 => ?_
              have t_n19 := t_r18 n19 e_n19
              subst e_n19
              refine go_iast (pc := 177) t_n19 dX0_spunWith_177 fun u8 => ?_
              refine go_goto (pc := 178) (tgt := 203) dX0_spunWith_178 (by decide) ?_
              exact go_weak (A' := [(0, .ref x0), (1, .int x1), (2, .int x2)]) (B' := []) ⟨rfl, rfl, rfl, trivial⟩ rfl (fun q h => by cases h) (hj1 u8 trivial)
            · refine go_aload_n (pc := 181) (j := 0) (i := 0) dX0_spunWith_181 rfl rfl ?_
              refine go_getR (pc := 182) (n := x0) (ci := 0) (k := 33) (t := 13) fa_X0_109_0 t_x0 rfl dX0_spunWith_182 fun r20 t_r20 => ?_
              refine go_iload (pc := 185) (i := 4) dX0_spunWith_185 rfl ?_
              refine go_sipush (pc := 187) (v := 9999) dX0_spunWith_187 (by decide) ?_
              refine go_aload_n (pc := 190) (j := 0) (i := 0) dX0_spunWith_190 rfl rfl ?_
              refine go_getR (pc := 191) (n := x0) (ci := 0) (k := 33) (t := 13) fa_X0_109_0 t_x0 rfl dX0_spunWith_191 fun r21 t_r21 => ?_
              refine go_iload (pc := 194) (i := 4) dX0_spunWith_194 rfl ?_
              refine go_oB fun n20 e_n20 => ?_
              have t_n20 := t_r21 n20 e_n20
              subst e_n20
              refine go_iald (pc := 196) t_n20 dX0_spunWith_196 ?_
              refine go_iconst (pc := 197) (v := 5) dX0_spunWith_197 (by decide) ?_
              refine go_iadd (pc := 198) dX0_spunWith_198 ?_
              refine go_mminI (pc := 199) dX0_spunWith_199 q568 q569 q102 q570 (by decide) (by simp [cat_rf, cat_int, cat_ref, cat_long]) ?_
              refine go_oB fun n21 e_n21 => ?_
              have t_n21 := t_r20 n21 e_n21
              subst e_n21
              refine go_iast (pc := 202) t_n21 dX0_spunWith_202 fun u9 => ?_
              exact go_weak (A' := [(0, .ref x0), (1, .int x1), (2, .int x2)]) (B' := []) ⟨rfl, rfl, rfl, trivial⟩ rfl (fun q h => by cases h) (hj1 u9 trivial)
end
def f_X0_spunWith_L219 (x0 : Nat) : Nat → Int32 → Int32 → Int32 → zM → Option (Int32 × zM)
  | 0, _, _, _, _ => none
  | n + 1, x2, x3, x4, u => if (mI u x0 16) ≤ x4 then (some (x2, u)) else (if 300 ≤ x3 then (some (x2, u)) else (lt (mR u x0 1) fun r22 => oB r22 fun n22 => ix x4 (mN u n22) (lt (mR u n22 (xN x4)) fun r23 => oB r23 fun n23 => lt (mR u n23 3) fun r24 => oB r24 fun n24 => lt (mR u x0 31) fun r25 => oB r25 fun n25 => ix x4 (mN u n25) (lt (mR u n23 3) fun r26 => oB r26 fun n26 => lt (mR u n26 2) fun r27 => bd (f_X0_seasonOf (mI u x0 14) u) fun v1 u11 => oB r27 fun n27 => ix v1 (mN u11 n27) (lt (mR u11 x0 32) fun r28 => oB r28 fun n28 => ix x4 (mN u11 n28) (lt (mR u11 x0 33) fun r29 => oB r29 fun n29 => ix (mI u n24 0) (mN u11 n29) (bd (f_X0_hanksOf ((mI u n25 (xN x4)) * (mI u11 n27 (xN v1))) (mI u11 n28 (xN x4)) (mI u11 n23 7) (mI u11 n29 (xN (mI u n24 0))) u11) fun v2 u12 => lt (fun (z1 : Int32) (z2 : Int32) (u13 : zM) => f_X0_spunWith_L219 x0 n z1 z2 (x4 + 1) u13) fun j2 => if v2 = 0 then (j2 x2 x3 u12) else (lt (mR u12 x0 33) fun r30 => oB r30 fun n30 => ix (mI u n24 0) (mN u12 n30) (bd (f_X0_begun v2 (mI u12 n23 7) u12) fun v3 u14 => ix (mI u n24 0) (mN u14 n30) (lt (sI u14 n30 (xN (mI u n24 0)) ((mI u12 n30 (xN (mI u n24 0))) - v3)) fun u15 => j2 (x2 + v2) (x3 + 1) u15))))))))))
section
variable {c0 s0 : Nat} {tbv : List ExceptionTableEntry}
set_option maxHeartbeats 4000000 in
theorem g_X0_spunWith_L219 (x0 : Nat) (t_x0 : kd x0 = 0) : ∀ (n : Nat) (x2 : Int32) (x3 : Int32) (x4 : Int32) (u : zM), Go RX0 cX0_spunWith 8 (some .int) false 2 63 [] (obT) (zQ rvI) c0 s0 219 [(0, .ref x0), (2, .int x2), (3, .int x3), (4, .int x4)] [] [] u (f_X0_spunWith_L219 x0 n x2 x3 x4 u) := by
  intro n
  induction n with
  | zero => intros; exact go_none
  | succ n ih =>
    intro x2 x3 x4 u
    unfold f_X0_spunWith_L219
    refine go_iload (pc := 219) (i := 4) dX0_spunWith_219 rfl ?_
    refine go_aload_n (pc := 221) (j := 0) (i := 0) dX0_spunWith_221 rfl rfl ?_
    refine go_getI (pc := 222) (n := x0) (ci := 0) (k := 16) fa_X0_120_0 t_x0 rfl dX0_spunWith_222 ?_
    refine go_icmp_ge (pc := 225) (tgt := 344) dX0_spunWith_225 (by decide) (fun h7 => ?_) (fun h7 => ?_)
    · refine go_iload_n (pc := 344) (j := 2) (i := 2) dX0_spunWith_344 rfl rfl ?_
      exact go_ireturn (pc := 345) rfl dX0_spunWith_345
    · refine go_iload_n (pc := 228) (j := 3) (i := 3) dX0_spunWith_228 rfl rfl ?_
      refine go_sipush (pc := 229) (v := 300) dX0_spunWith_229 (by decide) ?_
      refine go_icmp_ge (pc := 232) (tgt := 344) dX0_spunWith_232 (by decide) (fun h8 => ?_) (fun h8 => ?_)
      · refine go_iload_n (pc := 344) (j := 2) (i := 2) dX0_spunWith_344 rfl rfl ?_
        exact go_ireturn (pc := 345) rfl dX0_spunWith_345
      · refine go_aload_n (pc := 235) (j := 0) (i := 0) dX0_spunWith_235 rfl rfl ?_
        refine go_getR (pc := 236) (n := x0) (ci := 0) (k := 1) (t := 18) fa_X0_30_0 t_x0 rfl dX0_spunWith_236 fun r22 t_r22 => ?_
        refine go_iload (pc := 239) (i := 4) dX0_spunWith_239 rfl ?_
        refine go_oB fun n22 e_n22 => ?_
        have t_n22 := t_r22 n22 e_n22
        subst e_n22
        refine go_aald (pc := 241) (n := n22) (ci := 18) (t := 5) (by decide) (by decide) t_n22 rfl dX0_spunWith_241 fun r23 t_r23 => ?_
        refine go_astoreQ (pc := 242) (r := r23) (i := 5) (A' := [(0, .ref x0), (2, .int x2), (3, .int x3), (4, .int x4), (5, va_rf r23)]) (by decide) rfl rfl rfl dX0_spunWith_242 ?_
        refine go_aloadQ (pc := 244) (r := r23) (i := 5) dX0_spunWith_244 rfl ?_
        refine go_oB fun n23 e_n23 => ?_
        have t_n23 := t_r23 n23 e_n23
        subst e_n23
        refine go_getR (pc := 246) (n := n23) (ci := 5) (k := 3) (t := 4) fa_X0_240_5 t_n23 rfl dX0_spunWith_246 fun r24 t_r24 => ?_
        refine go_oB fun n24 e_n24 => ?_
        have t_n24 := t_r24 n24 e_n24
        subst e_n24
        refine go_getI (pc := 249) (n := n24) (ci := 4) (k := 0) fa_X0_144_4 t_n24 rfl dX0_spunWith_249 ?_
        refine go_istore (pc := 252) (i := 6) (A' := [(0, .ref x0), (2, .int x2), (3, .int x3), (4, .int x4), (5, .ref n23), (6, .int (mI u n24 0))]) (by decide) rfl rfl rfl dX0_spunWith_252 ?_
        refine go_aload_n (pc := 254) (j := 0) (i := 0) dX0_spunWith_254 rfl rfl ?_
        refine go_getR (pc := 255) (n := x0) (ci := 0) (k := 31) (t := 13) fa_X0_103_0 t_x0 rfl dX0_spunWith_255 fun r25 t_r25 => ?_
        refine go_iload (pc := 258) (i := 4) dX0_spunWith_258 rfl ?_
        refine go_oB fun n25 e_n25 => ?_
        have t_n25 := t_r25 n25 e_n25
        subst e_n25
        refine go_iald (pc := 260) t_n25 dX0_spunWith_260 ?_
        refine go_aload (pc := 261) (i := 5) dX0_spunWith_261 rfl ?_
        refine go_getR (pc := 263) (n := n23) (ci := 5) (k := 3) (t := 4) fa_X0_240_5 t_n23 rfl dX0_spunWith_263 fun r26 t_r26 => ?_
        refine go_oB fun n26 e_n26 => ?_
        have t_n26 := t_r26 n26 e_n26
        subst e_n26
        refine go_getR (pc := 266) (n := n26) (ci := 4) (k := 2) (t := 13) fa_X0_380_4 t_n26 rfl dX0_spunWith_266 fun r27 t_r27 => ?_
        refine go_aload_n (pc := 269) (j := 0) (i := 0) dX0_spunWith_269 rfl rfl ?_
        refine go_getI (pc := 270) (n := x0) (ci := 0) (k := 14) fa_X0_151_0 t_x0 rfl dX0_spunWith_270 ?_
        refine go_callSI (pc := 273) (ct_X0_seasonOf (mI u x0 14)) lk_X0_366 rfl ⟨by decide, by decide⟩ (by simp [cat_rf, cat_int, cat_ref, cat_long]) dX0_spunWith_273 rfl fun v1 u11 => ?_
        refine go_oB fun n27 e_n27 => ?_
        have t_n27 := t_r27 n27 e_n27
        subst e_n27
        refine go_iald (pc := 276) t_n27 dX0_spunWith_276 ?_
        refine go_imul (pc := 277) dX0_spunWith_277 ?_
        refine go_aload_n (pc := 278) (j := 0) (i := 0) dX0_spunWith_278 rfl rfl ?_
        refine go_getR (pc := 279) (n := x0) (ci := 0) (k := 32) (t := 13) fa_X0_106_0 t_x0 rfl dX0_spunWith_279 fun r28 t_r28 => ?_
        refine go_iload (pc := 282) (i := 4) dX0_spunWith_282 rfl ?_
        refine go_oB fun n28 e_n28 => ?_
        have t_n28 := t_r28 n28 e_n28
        subst e_n28
        refine go_iald (pc := 284) t_n28 dX0_spunWith_284 ?_
        refine go_aload (pc := 285) (i := 5) dX0_spunWith_285 rfl ?_
        refine go_getI (pc := 287) (n := n23) (ci := 5) (k := 7) fa_X0_173_5 t_n23 rfl dX0_spunWith_287 ?_
        refine go_aload_n (pc := 290) (j := 0) (i := 0) dX0_spunWith_290 rfl rfl ?_
        refine go_getR (pc := 291) (n := x0) (ci := 0) (k := 33) (t := 13) fa_X0_109_0 t_x0 rfl dX0_spunWith_291 fun r29 t_r29 => ?_
        refine go_iload (pc := 294) (i := 6) dX0_spunWith_294 rfl ?_
        refine go_oB fun n29 e_n29 => ?_
        have t_n29 := t_r29 n29 e_n29
        subst e_n29
        refine go_iald (pc := 296) t_n29 dX0_spunWith_296 ?_
        refine go_callSI (pc := 297) (ct_X0_hanksOf ((mI u n25 (xN x4)) * (mI u11 n27 (xN v1))) (mI u11 n28 (xN x4)) (mI u11 n23 7) (mI u11 n29 (xN (mI u n24 0)))) lk_X0_244 rfl ⟨by decide, by decide⟩ (Nat.le_of_ble_eq_true rfl) dX0_spunWith_297 rfl fun v2 u12 => ?_
        refine go_istore (pc := 300) (i := 7) (A' := [(0, .ref x0), (2, .int x2), (3, .int x3), (4, .int x4), (5, .ref n23), (6, .int (mI u n24 0)), (7, .int v2)]) (by decide) rfl rfl rfl dX0_spunWith_300 ?_
        refine go_iload (pc := 302) (i := 7) dX0_spunWith_302 rfl ?_
        refine go_join2 (pcx := 338) (α1 := Int32) (α2 := Int32) (fun z1 z2 => [(0, .ref x0), (2, .int z1), (3, .int z2), (4, .int x4)]) (fun z1 z2 => []) (fun z1 z2 => []) (fun z1 z2 => True) (fun z1 z2 u13 _ => ?_) (fun j2 hj2 => ?_)
        · refine go_iinc (pc := 338) (i := 4) (w := 1) (A' := [(0, .ref x0), (2, .int z1), (3, .int z2), (4, .int (x4 + 1))]) rfl (by decide) (by decide) rfl rfl rfl dX0_spunWith_338 ?_
          refine go_goto (pc := 341) (tgt := 219) dX0_spunWith_341 (by decide) ?_
          exact go_weak (A' := [(0, .ref x0), (2, .int z1), (3, .int z2), (4, .int (x4 + 1))]) (B' := []) ⟨rfl, rfl, rfl, rfl, trivial⟩ rfl (fun q h => by cases h) (ih z1 z2 (x4 + 1) u13)
        · refine go_if_ne (pc := 304) (tgt := 310) dX0_spunWith_304 (by decide) (fun h9 => ?_) (fun h9 => ?_)
          · refine go_goto (pc := 307) (tgt := 338) dX0_spunWith_307 (by decide) ?_
            exact go_weak (A' := [(0, .ref x0), (2, .int x2), (3, .int x3), (4, .int x4)]) (B' := []) ⟨rfl, rfl, rfl, rfl, trivial⟩ rfl (fun q h => by cases h) (hj2 x2 x3 u12 trivial)
          · refine go_iinc (pc := 310) (i := 3) (w := 1) (A' := [(0, .ref x0), (2, .int x2), (3, .int (x3 + 1)), (4, .int x4), (5, .ref n23), (6, .int (mI u n24 0)), (7, .int v2)]) rfl (by decide) (by decide) rfl rfl rfl dX0_spunWith_310 ?_
            refine go_iload_n (pc := 313) (j := 2) (i := 2) dX0_spunWith_313 rfl rfl ?_
            refine go_iload (pc := 314) (i := 7) dX0_spunWith_314 rfl ?_
            refine go_iadd (pc := 316) dX0_spunWith_316 ?_
            refine go_istore_n (pc := 317) (j := 2) (i := 2) (A' := [(0, .ref x0), (2, .int (x2 + v2)), (3, .int (x3 + 1)), (4, .int x4), (5, .ref n23), (6, .int (mI u n24 0)), (7, .int v2)]) rfl (by decide) rfl rfl rfl dX0_spunWith_317 ?_
            refine go_aload_n (pc := 318) (j := 0) (i := 0) dX0_spunWith_318 rfl rfl ?_
            refine go_getR (pc := 319) (n := x0) (ci := 0) (k := 33) (t := 13) fa_X0_109_0 t_x0 rfl dX0_spunWith_319 fun r30 t_r30 => ?_
            refine go_iload (pc := 322) (i := 6) dX0_spunWith_322 rfl ?_
            refine go_oB fun n30 e_n30 => ?_
            have t_n30 := t_r30 n30 e_n30
            subst e_n30
            refine go_dup2 (pc := 324) dX0_spunWith_324 ?_
            refine go_iald (pc := 325) t_n30 dX0_spunWith_325 ?_
            refine go_iload (pc := 326) (i := 7) dX0_spunWith_326 rfl ?_
            refine go_aload (pc := 328) (i := 5) dX0_spunWith_328 rfl ?_
            refine go_getI (pc := 330) (n := n23) (ci := 5) (k := 7) fa_X0_173_5 t_n23 rfl dX0_spunWith_330 ?_
            refine go_callSI (pc := 333) (ct_X0_begun v2 (mI u12 n23 7)) lk_X0_251 rfl ⟨by decide, by decide⟩ (Nat.le_of_ble_eq_true rfl) dX0_spunWith_333 rfl fun v3 u14 => ?_
            refine go_isub (pc := 336) dX0_spunWith_336 ?_
            refine go_iast (pc := 337) t_n30 dX0_spunWith_337 fun u15 => ?_
            exact go_weak (A' := [(0, .ref x0), (2, .int (x2 + v2)), (3, .int (x3 + 1)), (4, .int x4)]) (B' := []) ⟨rfl, rfl, rfl, rfl, trivial⟩ rfl (fun q h => by cases h) (hj2 (x2 + v2) (x3 + 1) u15 trivial)
end
def f_X0_spunWith (self : Nat) (p0 : Int32) (u : zM) : Option (Int32 × zM) := f_X0_spunWith_L2 self p0 (fun u3 => f_X0_spunWith_L48 self p0 (fun u5 => f_X0_spunWith_L79 self p0 (fun u10 => f_X0_spunWith_L219 self zFu 0 (mI u10 self 17) 0 u10) zFu 0 u5) zFu 0 u3) zFu 0 u
set_option maxHeartbeats 4000000 in
theorem ct_X0_spunWith (self : Nat) (p0 : Int32) (t_self : kd self = 0) : zMet yX0_spunWith cX0_spunWith 8 (some .int) 2 63 rvI (obT) [.ref self, .int p0] (f_X0_spunWith self p0) := by
  refine zMet_of (A := [(0, .ref self), (1, .int p0)]) (B := []) (ini := false) RX0 rfl (by decide +kernel) (fun h => by cases h) (by simp [lg_sl, Value.category]) (by simp [lv_args, Value.category]) rfl (by simp [lv_args, Value.category]) fun u => ?_
  unfold f_X0_spunWith
  refine go_iconst (pc := 0) (v := 0) dX0_spunWith_0 (by decide) ?_
  refine go_istore_n (pc := 1) (j := 2) (i := 2) (A' := [(0, .ref self), (1, .int p0), (2, .int 0)]) rfl (by decide) rfl rfl rfl dX0_spunWith_1 ?_
  refine go_weak (A' := [(0, .ref self), (1, .int p0), (2, .int 0)]) (B' := []) ⟨rfl, rfl, rfl, trivial⟩ rfl (fun q h => by cases h) (g_X0_spunWith_L2 self p0 _ t_self ?_ zFu 0 u)
  · intro u3
    refine go_iconst (pc := 46) (v := 0) dX0_spunWith_46 (by decide) ?_
    refine go_istore_n (pc := 47) (j := 2) (i := 2) (A' := [(0, .ref self), (1, .int p0), (2, .int 0)]) rfl (by decide) rfl rfl rfl dX0_spunWith_47 ?_
    refine go_weak (A' := [(0, .ref self), (1, .int p0), (2, .int 0)]) (B' := []) ⟨rfl, rfl, rfl, trivial⟩ rfl (fun q h => by cases h) (g_X0_spunWith_L48 self p0 _ t_self ?_ zFu 0 u3)
    · intro u5
      refine go_iconst (pc := 77) (v := 0) dX0_spunWith_77 (by decide) ?_
      refine go_istore_n (pc := 78) (j := 2) (i := 2) (A' := [(0, .ref self), (1, .int p0), (2, .int 0)]) rfl (by decide) rfl rfl rfl dX0_spunWith_78 ?_
      refine go_weak (A' := [(0, .ref self), (1, .int p0), (2, .int 0)]) (B' := []) ⟨rfl, rfl, rfl, trivial⟩ rfl (fun q h => by cases h) (g_X0_spunWith_L79 self p0 _ t_self ?_ zFu 0 u5)
      · intro u10
        refine go_iconst (pc := 209) (v := 0) dX0_spunWith_209 (by decide) ?_
        refine go_istore_n (pc := 210) (j := 2) (i := 2) (A' := [(0, .ref self), (2, .int 0)]) rfl (by decide) rfl rfl rfl dX0_spunWith_210 ?_
        refine go_aload_n (pc := 211) (j := 0) (i := 0) dX0_spunWith_211 rfl rfl ?_
        refine go_getI (pc := 212) (n := self) (ci := 0) (k := 17) fa_X0_123_0 t_self rfl dX0_spunWith_212 ?_
        refine go_istore_n (pc := 215) (j := 3) (i := 3) (A' := [(0, .ref self), (2, .int 0), (3, .int (mI u10 self 17))]) rfl (by decide) rfl rfl rfl dX0_spunWith_215 ?_
        refine go_iconst (pc := 216) (v := 0) dX0_spunWith_216 (by decide) ?_
        refine go_istore (pc := 217) (i := 4) (A' := [(0, .ref self), (2, .int 0), (3, .int (mI u10 self 17)), (4, .int 0)]) (by decide) rfl rfl rfl dX0_spunWith_217 ?_
        exact go_weak (A' := [(0, .ref self), (2, .int 0), (3, .int (mI u10 self 17)), (4, .int 0)]) (B' := []) ⟨rfl, rfl, rfl, rfl, trivial⟩ rfl (fun q h => by cases h) (g_X0_spunWith_L219 self t_self zFu 0 (mI u10 self 17) 0 u10)

def f_X0_best_L53 (x0 : Nat) (x1 : Int32) (x2 : Int32) (x3 : Int32) (x4 : Int32) (x5 : Int32) (x6 : Int32) (k88 : Int32 → zM → Option (Int32 × zM)) : Nat → Int32 → Int32 → zM → Option (Int32 × zM)
  | 0, _, _, _ => none
  | n + 1, x7, x8, u => if (mI u x0 34) ≤ x8 then (k88 x7 u) else (lt (mR u x0 28) fun r1 => oB r1 fun n1 => ix x8 (mN u n1) (f_X0_best_L53 x0 x1 x2 x3 x4 x5 x6 k88 n (x7 + (((x6 >>> (x8 &&& 31)) &&& 1) * (mI u n1 (xN x8)))) (x8 + 1) u))
section
variable {c0 s0 : Nat} {tbv : List ExceptionTableEntry}
set_option maxHeartbeats 4000000 in
theorem g_X0_best_L53 (x0 : Nat) (x1 : Int32) (x2 : Int32) (x3 : Int32) (x4 : Int32) (x5 : Int32) (x6 : Int32) (k88 : Int32 → zM → Option (Int32 × zM)) (t_x0 : kd x0 = 0) (hk88 : ∀ (x7 : Int32) (u : zM), Go RX0 cX0_best 9 (some .int) false 3 90 [] (obT) (zQ rvI) c0 s0 88 [(0, .ref x0), (1, .int x1), (2, .int x2), (3, .int x3), (4, .int x4), (5, .int x5), (6, .int x6), (7, .int x7)] [] [] u (k88 x7 u)) : ∀ (n : Nat) (x7 : Int32) (x8 : Int32) (u : zM), Go RX0 cX0_best 9 (some .int) false 3 90 [] (obT) (zQ rvI) c0 s0 53 [(0, .ref x0), (1, .int x1), (2, .int x2), (3, .int x3), (4, .int x4), (5, .int x5), (6, .int x6), (7, .int x7), (8, .int x8)] [] [] u (f_X0_best_L53 x0 x1 x2 x3 x4 x5 x6 k88 n x7 x8 u) := by
  intro n
  induction n with
  | zero => intros; exact go_none
  | succ n ih =>
    intro x7 x8 u
    unfold f_X0_best_L53
    refine go_iload (pc := 53) (i := 8) dX0_best_53 rfl ?_
    refine go_aload_n (pc := 55) (j := 0) (i := 0) dX0_best_55 rfl rfl ?_
    refine go_getI (pc := 56) (n := x0) (ci := 0) (k := 34) fa_X0_487_0 t_x0 rfl dX0_best_56 ?_
    refine go_icmp_ge (pc := 59) (tgt := 88) dX0_best_59 (by decide) (fun h5 => ?_) (fun h5 => ?_)
    · exact go_weak (A' := [(0, .ref x0), (1, .int x1), (2, .int x2), (3, .int x3), (4, .int x4), (5, .int x5), (6, .int x6), (7, .int x7)]) (B' := []) ⟨rfl, rfl, rfl, rfl, rfl, rfl, rfl, rfl, trivial⟩ rfl (fun q h => by cases h) (hk88 x7 u)
    · refine go_iload (pc := 62) (i := 7) dX0_best_62 rfl ?_
      refine go_iload (pc := 64) (i := 6) dX0_best_64 rfl ?_
      refine go_iload (pc := 66) (i := 8) dX0_best_66 rfl ?_
      refine go_ishr (pc := 68) dX0_best_68 ?_
      refine go_iconst (pc := 69) (v := 1) dX0_best_69 (by decide) ?_
      refine go_iand (pc := 70) dX0_best_70 ?_
      refine go_aload_n (pc := 71) (j := 0) (i := 0) dX0_best_71 rfl rfl ?_
      refine go_getR (pc := 72) (n := x0) (ci := 0) (k := 28) (t := 13) fa_X0_94_0 t_x0 rfl dX0_best_72 fun r1 t_r1 => ?_
      refine go_iload (pc := 75) (i := 8) dX0_best_75 rfl ?_
      refine go_oB fun n1 e_n1 => ?_
      have t_n1 := t_r1 n1 e_n1
      subst e_n1
      refine go_iald (pc := 77) t_n1 dX0_best_77 ?_
      refine go_imul (pc := 78) dX0_best_78 ?_
      refine go_iadd (pc := 79) dX0_best_79 ?_
      refine go_istore (pc := 80) (i := 7) (A' := [(0, .ref x0), (1, .int x1), (2, .int x2), (3, .int x3), (4, .int x4), (5, .int x5), (6, .int x6), (7, .int (x7 + (((x6 >>> (x8 &&& 31)) &&& 1) * (mI u n1 (xN x8))))), (8, .int x8)]) (by decide) rfl rfl rfl dX0_best_80 ?_
      refine go_iinc (pc := 82) (i := 8) (w := 1) (A' := [(0, .ref x0), (1, .int x1), (2, .int x2), (3, .int x3), (4, .int x4), (5, .int x5), (6, .int x6), (7, .int (x7 + (((x6 >>> (x8 &&& 31)) &&& 1) * (mI u n1 (xN x8))))), (8, .int (x8 + 1))]) rfl (by decide) (by decide) rfl rfl rfl dX0_best_82 ?_
      refine go_goto (pc := 85) (tgt := 53) dX0_best_85 (by decide) ?_
      exact go_weak (A' := [(0, .ref x0), (1, .int x1), (2, .int x2), (3, .int x3), (4, .int x4), (5, .int x5), (6, .int x6), (7, .int (x7 + (((x6 >>> (x8 &&& 31)) &&& 1) * (mI u n1 (xN x8))))), (8, .int (x8 + 1))]) (B' := []) ⟨rfl, rfl, rfl, rfl, rfl, rfl, rfl, rfl, rfl, trivial⟩ rfl (fun q h => by cases h) (ih (x7 + (((x6 >>> (x8 &&& 31)) &&& 1) * (mI u n1 (xN x8)))) (x8 + 1) u)
end
def f_X0_best_L36 (x0 : Nat) (x1 : Int32) (x2 : Int32) (k146 : Int32 → Int32 → Int32 → zM → Option (Int32 × zM)) : Nat → Int32 → Int32 → Int32 → Int32 → zM → Option (Int32 × zM)
  | 0, _, _, _, _, _ => none
  | n + 1, x3, x4, x5, x6, u => if (1 <<< ((mI u x0 34) &&& 31)) ≤ x6 then (k146 x3 x4 x5 u) else (f_X0_best_L53 x0 x1 x2 x3 x4 x5 x6 (fun z1 u2 => lt (fun (z2 : Int32) (z3 : Int32) (z4 : Int32) (u3 : zM) => f_X0_best_L36 x0 x1 x2 k146 n z2 z3 z4 (x6 + 1) u3) fun j1 => if z1 ≤ x1 then (bd (f_X0_spunWith x0 x6 u2) fun v2 u4 => if v2 < x4 then (j1 x3 x4 x5 u4) else (lt (fun (u5 : zM) => j1 x6 v2 z1 u5) fun j2 => if v2 = x4 then (if z1 < x5 then (j2 u4) else (j1 x3 x4 x5 u4)) else (j2 u4))) else (j1 x3 x4 x5 u2)) zFu 0 0 u)
section
variable {c0 s0 : Nat} {tbv : List ExceptionTableEntry}
set_option maxHeartbeats 4000000 in
theorem g_X0_best_L36 (x0 : Nat) (x1 : Int32) (x2 : Int32) (k146 : Int32 → Int32 → Int32 → zM → Option (Int32 × zM)) (t_x0 : kd x0 = 0) (hk146 : ∀ (x3 : Int32) (x4 : Int32) (x5 : Int32) (u : zM), Go RX0 cX0_best 9 (some .int) false 3 90 [] (obT) (zQ rvI) c0 s0 146 [(2, .int x2), (3, .int x3), (4, .int x4), (5, .int x5)] [] [] u (k146 x3 x4 x5 u)) : ∀ (n : Nat) (x3 : Int32) (x4 : Int32) (x5 : Int32) (x6 : Int32) (u : zM), Go RX0 cX0_best 9 (some .int) false 3 90 [] (obT) (zQ rvI) c0 s0 36 [(0, .ref x0), (1, .int x1), (2, .int x2), (3, .int x3), (4, .int x4), (5, .int x5), (6, .int x6)] [] [] u (f_X0_best_L36 x0 x1 x2 k146 n x3 x4 x5 x6 u) := by
  intro n
  induction n with
  | zero => intros; exact go_none
  | succ n ih =>
    intro x3 x4 x5 x6 u
    unfold f_X0_best_L36
    refine go_iload (pc := 36) (i := 6) dX0_best_36 rfl ?_
    refine go_iconst (pc := 38) (v := 1) dX0_best_38 (by decide) ?_
    refine go_aload_n (pc := 39) (j := 0) (i := 0) dX0_best_39 rfl rfl ?_
    refine go_getI (pc := 40) (n := x0) (ci := 0) (k := 34) fa_X0_487_0 t_x0 rfl dX0_best_40 ?_
    refine go_ishl (pc := 43) dX0_best_43 ?_
    refine go_icmp_ge (pc := 44) (tgt := 146) dX0_best_44 (by decide) (fun h4 => ?_) (fun h4 => ?_)
    · exact go_weak (A' := [(2, .int x2), (3, .int x3), (4, .int x4), (5, .int x5)]) (B' := []) ⟨rfl, rfl, rfl, rfl, trivial⟩ rfl (fun q h => by cases h) (hk146 x3 x4 x5 u)
    · refine go_iconst (pc := 47) (v := 0) dX0_best_47 (by decide) ?_
      refine go_istore (pc := 48) (i := 7) (A' := [(0, .ref x0), (1, .int x1), (2, .int x2), (3, .int x3), (4, .int x4), (5, .int x5), (6, .int x6), (7, .int 0)]) (by decide) rfl rfl rfl dX0_best_48 ?_
      refine go_iconst (pc := 50) (v := 0) dX0_best_50 (by decide) ?_
      refine go_istore (pc := 51) (i := 8) (A' := [(0, .ref x0), (1, .int x1), (2, .int x2), (3, .int x3), (4, .int x4), (5, .int x5), (6, .int x6), (7, .int 0), (8, .int 0)]) (by decide) rfl rfl rfl dX0_best_51 ?_
      refine go_weak (A' := [(0, .ref x0), (1, .int x1), (2, .int x2), (3, .int x3), (4, .int x4), (5, .int x5), (6, .int x6), (7, .int 0), (8, .int 0)]) (B' := []) ⟨rfl, rfl, rfl, rfl, rfl, rfl, rfl, rfl, rfl, trivial⟩ rfl (fun q h => by cases h) (g_X0_best_L53 x0 x1 x2 x3 x4 x5 x6 _ t_x0 ?_ zFu 0 0 u)
      · intro z1 u2
        refine go_iload (pc := 88) (i := 7) dX0_best_88 rfl ?_
        refine go_iload_n (pc := 90) (j := 1) (i := 1) dX0_best_90 rfl rfl ?_
        refine go_join3 (pcx := 140) (α1 := Int32) (α2 := Int32) (α3 := Int32) (fun z2 z3 z4 => [(0, .ref x0), (1, .int x1), (2, .int x2), (3, .int z2), (4, .int z3), (5, .int z4), (6, .int x6)]) (fun z2 z3 z4 => []) (fun z2 z3 z4 => []) (fun z2 z3 z4 => True) (fun z2 z3 z4 u3 _ => ?_) (fun j1 hj1 => ?_)
        · refine go_iinc (pc := 140) (i := 6) (w := 1) (A' := [(0, .ref x0), (1, .int x1), (2, .int x2), (3, .int z2), (4, .int z3), (5, .int z4), (6, .int (x6 + 1))]) rfl (by decide) (by decide) rfl rfl rfl dX0_best_140 ?_
          refine go_goto (pc := 143) (tgt := 36) dX0_best_143 (by decide) ?_
          exact go_weak (A' := [(0, .ref x0), (1, .int x1), (2, .int x2), (3, .int z2), (4, .int z3), (5, .int z4), (6, .int (x6 + 1))]) (B' := []) ⟨rfl, rfl, rfl, rfl, rfl, rfl, rfl, trivial⟩ rfl (fun q h => by cases h) (ih z2 z3 z4 (x6 + 1) u3)
        · refine go_icmp_le (pc := 91) (tgt := 97) dX0_best_91 (by decide) (fun h6 => ?_) (fun h6 => ?_)
          · refine go_aload_n (pc := 97) (j := 0) (i := 0) dX0_best_97 rfl rfl ?_
            refine go_iload (pc := 98) (i := 6) dX0_best_98 rfl ?_
            refine go_callVI (pc := 100) (ci := 0) (ct_X0_spunWith x0 x6 t_x0) lk_X0_490 rfl rfl rfl (by decide) t_x0 ⟨by decide, by decide⟩ (Nat.le_of_ble_eq_true rfl) dX0_best_100 rfl fun v2 u4 => ?_
            refine go_istore (pc := 103) (i := 8) (A' := [(0, .ref x0), (1, .int x1), (2, .int x2), (3, .int x3), (4, .int x4), (5, .int x5), (6, .int x6), (7, .int z1), (8, .int v2)]) (by decide) rfl rfl rfl dX0_best_103 ?_
            refine go_iload (pc := 105) (i := 8) dX0_best_105 rfl ?_
            refine go_iload (pc := 107) (i := 4) dX0_best_107 rfl ?_
            refine go_icmp_lt (pc := 109) (tgt := 140) dX0_best_109 (by decide) (fun h7 => ?_) (fun h7 => ?_)
            · exact go_weak (A' := [(0, .ref x0), (1, .int x1), (2, .int x2), (3, .int x3), (4, .int x4), (5, .int x5), (6, .int x6)]) (B' := []) ⟨rfl, rfl, rfl, rfl, rfl, rfl, rfl, trivial⟩ rfl (fun q h => by cases h) (hj1 x3 x4 x5 u4 trivial)
            · refine go_iload (pc := 112) (i := 8) dX0_best_112 rfl ?_
              refine go_iload (pc := 114) (i := 4) dX0_best_114 rfl ?_
              refine go_join0 (pcx := 129) ([(0, .ref x0), (1, .int x1), (2, .int x2), (6, .int x6), (7, .int z1), (8, .int v2)]) ([]) ([]) (True) (fun u5 _ => ?_) (fun j2 hj2 => ?_)
              · refine go_iload (pc := 129) (i := 6) dX0_best_129 rfl ?_
                refine go_istore_n (pc := 131) (j := 3) (i := 3) (A' := [(0, .ref x0), (1, .int x1), (2, .int x2), (6, .int x6), (7, .int z1), (8, .int v2), (3, .int x6)]) rfl (by decide) rfl rfl rfl dX0_best_131 ?_
                refine go_iload (pc := 132) (i := 8) dX0_best_132 rfl ?_
                refine go_istore (pc := 134) (i := 4) (A' := [(0, .ref x0), (1, .int x1), (2, .int x2), (6, .int x6), (7, .int z1), (8, .int v2), (3, .int x6), (4, .int v2)]) (by decide) rfl rfl rfl dX0_best_134 ?_
                refine go_iload (pc := 136) (i := 7) dX0_best_136 rfl ?_
                refine go_istore (pc := 138) (i := 5) (A' := [(0, .ref x0), (1, .int x1), (2, .int x2), (6, .int x6), (7, .int z1), (8, .int v2), (3, .int x6), (4, .int v2), (5, .int z1)]) (by decide) rfl rfl rfl dX0_best_138 ?_
                exact go_weak (A' := [(0, .ref x0), (1, .int x1), (2, .int x2), (3, .int x6), (4, .int v2), (5, .int z1), (6, .int x6)]) (B' := []) ⟨rfl, rfl, rfl, rfl, rfl, rfl, rfl, trivial⟩ rfl (fun q h => by cases h) (hj1 x6 v2 z1 u5 trivial)
              · refine go_icmp_ne (pc := 116) (tgt := 129) dX0_best_116 (by decide) (fun h8 => ?_) (fun h8 => ?_)
                · refine go_iload (pc := 119) (i := 7) dX0_best_119 rfl ?_
                  refine go_iload (pc := 121) (i := 5) dX0_best_121 rfl ?_
                  refine go_icmp_lt (pc := 123) (tgt := 129) dX0_best_123 (by decide) (fun h9 => ?_) (fun h9 => ?_)
                  · exact go_weak (A' := [(0, .ref x0), (1, .int x1), (2, .int x2), (6, .int x6), (7, .int z1), (8, .int v2)]) (B' := []) ⟨rfl, rfl, rfl, rfl, rfl, rfl, trivial⟩ rfl (fun q h => by cases h) (hj2 u4 trivial)
                  · refine go_goto (pc := 126) (tgt := 140) dX0_best_126 (by decide) ?_
                    exact go_weak (A' := [(0, .ref x0), (1, .int x1), (2, .int x2), (3, .int x3), (4, .int x4), (5, .int x5), (6, .int x6)]) (B' := []) ⟨rfl, rfl, rfl, rfl, rfl, rfl, rfl, trivial⟩ rfl (fun q h => by cases h) (hj1 x3 x4 x5 u4 trivial)
                · exact go_weak (A' := [(0, .ref x0), (1, .int x1), (2, .int x2), (6, .int x6), (7, .int z1), (8, .int v2)]) (B' := []) ⟨rfl, rfl, rfl, rfl, rfl, rfl, trivial⟩ rfl (fun q h => by cases h) (hj2 u4 trivial)
          · refine go_goto (pc := 94) (tgt := 140) dX0_best_94 (by decide) ?_
            exact go_weak (A' := [(0, .ref x0), (1, .int x1), (2, .int x2), (3, .int x3), (4, .int x4), (5, .int x5), (6, .int x6)]) (B' := []) ⟨rfl, rfl, rfl, rfl, rfl, rfl, rfl, trivial⟩ rfl (fun q h => by cases h) (hj1 x3 x4 x5 u2 trivial)
end
def f_X0_best (self : Nat) (p0 : Int32) (p1 : Int32) (u : zM) : Option (Int32 × zM) := if p0 < 0 then (some ((-1), u)) else (bd (f_X0_in p1 0 2 u) fun v1 u1 => if v1 = 0 then (some ((-1), u1)) else (if (mI u1 self 14) = 156 then (some ((-1), u1)) else (f_X0_best_L36 self p0 p1 (fun z5 z6 z7 u6 => if p1 = 0 then (some (z5, u6)) else (if p1 = 1 then (some (z6, u6)) else (some (z7, u6)))) zFu 0 (-1) 0 0 u1)))
set_option maxHeartbeats 4000000 in
theorem ct_X0_best (self : Nat) (p0 : Int32) (p1 : Int32) (t_self : kd self = 0) : zMet yX0_best cX0_best 9 (some .int) 3 90 rvI (obT) [.ref self, .int p0, .int p1] (f_X0_best self p0 p1) := by
  refine zMet_of (A := [(0, .ref self), (1, .int p0), (2, .int p1)]) (B := []) (ini := false) RX0 rfl (by decide +kernel) (fun h => by cases h) (by simp [lg_sl, Value.category]) (by simp [lv_args, Value.category]) rfl (by simp [lv_args, Value.category]) fun u => ?_
  unfold f_X0_best
  refine go_iload_n (pc := 0) (j := 1) (i := 1) dX0_best_0 rfl rfl ?_
  refine go_if_lt (pc := 1) (tgt := 23) dX0_best_1 (by decide) (fun h1 => ?_) (fun h1 => ?_)
  · refine go_iconst (pc := 23) (v := (-1)) dX0_best_23 (by decide) ?_
    exact go_ireturn (pc := 24) rfl dX0_best_24
  · refine go_iload_n (pc := 4) (j := 2) (i := 2) dX0_best_4 rfl rfl ?_
    refine go_iconst (pc := 5) (v := 0) dX0_best_5 (by decide) ?_
    refine go_iconst (pc := 6) (v := 2) dX0_best_6 (by decide) ?_
    refine go_callSI (pc := 7) (ct_X0_in p1 0 2) lk_X0_116 rfl ⟨by decide, by decide⟩ (Nat.le_of_ble_eq_true rfl) dX0_best_7 rfl fun v1 u1 => ?_
    refine go_if_eq (pc := 10) (tgt := 23) dX0_best_10 (by decide) (fun h2 => ?_) (fun h2 => ?_)
    · refine go_iconst (pc := 23) (v := (-1)) dX0_best_23 (by decide) ?_
      exact go_ireturn (pc := 24) rfl dX0_best_24
    · refine go_aload_n (pc := 13) (j := 0) (i := 0) dX0_best_13 rfl rfl ?_
      refine go_getI (pc := 14) (n := self) (ci := 0) (k := 14) fa_X0_151_0 t_self rfl dX0_best_14 ?_
      refine go_sipush (pc := 17) (v := 156) dX0_best_17 (by decide) ?_
      refine go_icmp_ne (pc := 20) (tgt := 25) dX0_best_20 (by decide) (fun h3 => ?_) (fun h3 => ?_)
      · refine go_iconst (pc := 23) (v := (-1)) dX0_best_23 (by decide) ?_
        exact go_ireturn (pc := 24) rfl dX0_best_24
      · refine go_iconst (pc := 25) (v := 0) dX0_best_25 (by decide) ?_
        refine go_istore_n (pc := 26) (j := 3) (i := 3) (A' := [(0, .ref self), (1, .int p0), (2, .int p1), (3, .int 0)]) rfl (by decide) rfl rfl rfl dX0_best_26 ?_
        refine go_iconst (pc := 27) (v := (-1)) dX0_best_27 (by decide) ?_
        refine go_istore (pc := 28) (i := 4) (A' := [(0, .ref self), (1, .int p0), (2, .int p1), (3, .int 0), (4, .int (-1))]) (by decide) rfl rfl rfl dX0_best_28 ?_
        refine go_iconst (pc := 30) (v := 0) dX0_best_30 (by decide) ?_
        refine go_istore (pc := 31) (i := 5) (A' := [(0, .ref self), (1, .int p0), (2, .int p1), (3, .int 0), (4, .int (-1)), (5, .int 0)]) (by decide) rfl rfl rfl dX0_best_31 ?_
        refine go_iconst (pc := 33) (v := 0) dX0_best_33 (by decide) ?_
        refine go_istore (pc := 34) (i := 6) (A' := [(0, .ref self), (1, .int p0), (2, .int p1), (3, .int 0), (4, .int (-1)), (5, .int 0), (6, .int 0)]) (by decide) rfl rfl rfl dX0_best_34 ?_
        refine go_weak (A' := [(0, .ref self), (1, .int p0), (2, .int p1), (3, .int 0), (4, .int (-1)), (5, .int 0), (6, .int 0)]) (B' := []) ⟨rfl, rfl, rfl, rfl, rfl, rfl, rfl, trivial⟩ rfl (fun q h => by cases h) (g_X0_best_L36 self p0 p1 _ t_self ?_ zFu 0 (-1) 0 0 u1)
        · intro z5 z6 z7 u6
          refine go_iload_n (pc := 146) (j := 2) (i := 2) dX0_best_146 rfl rfl ?_
          refine go_if_ne (pc := 147) (tgt := 154) dX0_best_147 (by decide) (fun h10 => ?_) (fun h10 => ?_)
          · refine go_iload_n (pc := 150) (j := 3) (i := 3) dX0_best_150 rfl rfl ?_
            refine go_goto (pc := 151) (tgt := 166) dX0_best_151 (by decide) ?_
            exact go_ireturn (pc := 166) rfl dX0_best_166
          · refine go_iload_n (pc := 154) (j := 2) (i := 2) dX0_best_154 rfl rfl ?_
            refine go_iconst (pc := 155) (v := 1) dX0_best_155 (by decide) ?_
            refine go_icmp_ne (pc := 156) (tgt := 164) dX0_best_156 (by decide) (fun h11 => ?_) (fun h11 => ?_)
            · refine go_iload (pc := 159) (i := 4) dX0_best_159 rfl ?_
              refine go_goto (pc := 161) (tgt := 166) dX0_best_161 (by decide) ?_
              exact go_ireturn (pc := 166) rfl dX0_best_166
            · refine go_iload (pc := 164) (i := 5) dX0_best_164 rfl ?_
              exact go_ireturn (pc := 166) rfl dX0_best_166

def f_X0_hungry_L16 (x0 : Nat) (x1 : Int32) : Nat → Int32 → Int32 → zM → Option (Int32 × zM)
  | 0, _, _, _ => none
  | n + 1, x2, x3, u => if (mI u x0 16) ≤ x3 then (some (x2, u)) else (lt (mR u x0 1) fun r1 => oB r1 fun n1 => ix x3 (mN u n1) (lt (mR u n1 (xN x3)) fun r2 => oB r2 fun n2 => lt (mR u x0 1) fun r3 => oB r3 fun n3 => ix x3 (mN u n3) (lt (mR u n3 (xN x3)) fun r4 => oB r4 fun n4 => lt (fun (z1 : Int32) (u2 : zM) => f_X0_hungry_L16 x0 x1 n (x2 ||| z1) (x3 + 1) u2) fun j1 => if ((mI u n4 2) * x1) ≤ (mI u n2 6) then (j1 0 u) else (j1 (1 <<< (x3 &&& 31)) u))))
section
variable {c0 s0 : Nat} {tbv : List ExceptionTableEntry}
set_option maxHeartbeats 4000000 in
theorem g_X0_hungry_L16 (x0 : Nat) (x1 : Int32) (t_x0 : kd x0 = 0) : ∀ (n : Nat) (x2 : Int32) (x3 : Int32) (u : zM), Go RX0 cX0_hungry 4 (some .int) false 2 22 [] (obT) (zQ rvI) c0 s0 16 [(0, .ref x0), (1, .int x1), (2, .int x2), (3, .int x3)] [] [] u (f_X0_hungry_L16 x0 x1 n x2 x3 u) := by
  intro n
  induction n with
  | zero => intros; exact go_none
  | succ n ih =>
    intro x2 x3 u
    unfold f_X0_hungry_L16
    refine go_iload_n (pc := 16) (j := 3) (i := 3) dX0_hungry_16 rfl rfl ?_
    refine go_aload_n (pc := 17) (j := 0) (i := 0) dX0_hungry_17 rfl rfl ?_
    refine go_getI (pc := 18) (n := x0) (ci := 0) (k := 16) fa_X0_120_0 t_x0 rfl dX0_hungry_18 ?_
    refine go_icmp_ge (pc := 21) (tgt := 63) dX0_hungry_21 (by decide) (fun h2 => ?_) (fun h2 => ?_)
    · refine go_iload_n (pc := 63) (j := 2) (i := 2) dX0_hungry_63 rfl rfl ?_
      exact go_ireturn (pc := 64) rfl dX0_hungry_64
    · refine go_iload_n (pc := 24) (j := 2) (i := 2) dX0_hungry_24 rfl rfl ?_
      refine go_aload_n (pc := 25) (j := 0) (i := 0) dX0_hungry_25 rfl rfl ?_
      refine go_getR (pc := 26) (n := x0) (ci := 0) (k := 1) (t := 18) fa_X0_30_0 t_x0 rfl dX0_hungry_26 fun r1 t_r1 => ?_
      refine go_iload_n (pc := 29) (j := 3) (i := 3) dX0_hungry_29 rfl rfl ?_
      refine go_oB fun n1 e_n1 => ?_
      have t_n1 := t_r1 n1 e_n1
      subst e_n1
      refine go_aald (pc := 30) (n := n1) (ci := 18) (t := 5) (by decide) (by decide) t_n1 rfl dX0_hungry_30 fun r2 t_r2 => ?_
      refine go_oB fun n2 e_n2 => ?_
      have t_n2 := t_r2 n2 e_n2
      subst e_n2
      refine go_getI (pc := 31) (n := n2) (ci := 5) (k := 6) fa_X0_177_5 t_n2 rfl dX0_hungry_31 ?_
      refine go_aload_n (pc := 34) (j := 0) (i := 0) dX0_hungry_34 rfl rfl ?_
      refine go_getR (pc := 35) (n := x0) (ci := 0) (k := 1) (t := 18) fa_X0_30_0 t_x0 rfl dX0_hungry_35 fun r3 t_r3 => ?_
      refine go_iload_n (pc := 38) (j := 3) (i := 3) dX0_hungry_38 rfl rfl ?_
      refine go_oB fun n3 e_n3 => ?_
      have t_n3 := t_r3 n3 e_n3
      subst e_n3
      refine go_aald (pc := 39) (n := n3) (ci := 18) (t := 5) (by decide) (by decide) t_n3 rfl dX0_hungry_39 fun r4 t_r4 => ?_
      refine go_oB fun n4 e_n4 => ?_
      have t_n4 := t_r4 n4 e_n4
      subst e_n4
      refine go_getI (pc := 40) (n := n4) (ci := 5) (k := 2) fa_X0_374_5 t_n4 rfl dX0_hungry_40 ?_
      refine go_iload_n (pc := 43) (j := 1) (i := 1) dX0_hungry_43 rfl rfl ?_
      refine go_imul (pc := 44) dX0_hungry_44 ?_
      refine go_join1 (pcx := 55) (α1 := Int32) (fun z1 => [(0, .ref x0), (1, .int x1), (3, .int x3)]) (fun z1 => []) (fun z1 => [.int z1, .int x2]) (fun z1 => True) (fun z1 u2 _ => ?_) (fun j1 hj1 => ?_)
      · refine go_ior (pc := 55) dX0_hungry_55 ?_
        refine go_istore_n (pc := 56) (j := 2) (i := 2) (A' := [(0, .ref x0), (1, .int x1), (3, .int x3), (2, .int (x2 ||| z1))]) rfl (by decide) rfl rfl rfl dX0_hungry_56 ?_
        refine go_iinc (pc := 57) (i := 3) (w := 1) (A' := [(0, .ref x0), (1, .int x1), (3, .int (x3 + 1)), (2, .int (x2 ||| z1))]) rfl (by decide) (by decide) rfl rfl rfl dX0_hungry_57 ?_
        refine go_goto (pc := 60) (tgt := 16) dX0_hungry_60 (by decide) ?_
        exact go_weak (A' := [(0, .ref x0), (1, .int x1), (2, .int (x2 ||| z1)), (3, .int (x3 + 1))]) (B' := []) ⟨rfl, rfl, rfl, rfl, trivial⟩ rfl (fun q h => by cases h) (ih (x2 ||| z1) (x3 + 1) u2)
      · refine go_icmp_ge (pc := 45) (tgt := 54) dX0_hungry_45 (by decide) (fun h3 => ?_) (fun h3 => ?_)
        · refine go_iconst (pc := 54) (v := 0) dX0_hungry_54 (by decide) ?_
          exact go_weak (A' := [(0, .ref x0), (1, .int x1), (3, .int x3)]) (B' := []) ⟨rfl, rfl, rfl, trivial⟩ rfl (fun q h => by cases h) (hj1 0 u trivial)
        · refine go_iconst (pc := 48) (v := 1) dX0_hungry_48 (by decide) ?_
          refine go_iload_n (pc := 49) (j := 3) (i := 3) dX0_hungry_49 rfl rfl ?_
          refine go_ishl (pc := 50) dX0_hungry_50 ?_
          refine go_goto (pc := 51) (tgt := 55) dX0_hungry_51 (by decide) ?_
          exact go_weak (A' := [(0, .ref x0), (1, .int x1), (3, .int x3)]) (B' := []) ⟨rfl, rfl, rfl, trivial⟩ rfl (fun q h => by cases h) (hj1 (1 <<< (x3 &&& 31)) u trivial)
end
def f_X0_hungry (self : Nat) (p0 : Int32) (u : zM) : Option (Int32 × zM) := bd (f_X0_in p0 1 99 u) fun v1 u1 => if v1 = 0 then (some ((-1), u1)) else (f_X0_hungry_L16 self p0 zFu 0 0 u1)
set_option maxHeartbeats 4000000 in
theorem ct_X0_hungry (self : Nat) (p0 : Int32) (t_self : kd self = 0) : zMet yX0_hungry cX0_hungry 4 (some .int) 2 22 rvI (obT) [.ref self, .int p0] (f_X0_hungry self p0) := by
  refine zMet_of (A := [(0, .ref self), (1, .int p0)]) (B := []) (ini := false) RX0 rfl (by decide +kernel) (fun h => by cases h) (by simp [lg_sl, Value.category]) (by simp [lv_args, Value.category]) rfl (by simp [lv_args, Value.category]) fun u => ?_
  unfold f_X0_hungry
  refine go_iload_n (pc := 0) (j := 1) (i := 1) dX0_hungry_0 rfl rfl ?_
  refine go_iconst (pc := 1) (v := 1) dX0_hungry_1 (by decide) ?_
  refine go_bipush (pc := 2) (v := 99) dX0_hungry_2 (by decide) ?_
  refine go_callSI (pc := 4) (ct_X0_in p0 1 99) lk_X0_116 rfl ⟨by decide, by decide⟩ (Nat.le_of_ble_eq_true rfl) dX0_hungry_4 rfl fun v1 u1 => ?_
  refine go_if_ne (pc := 7) (tgt := 12) dX0_hungry_7 (by decide) (fun h1 => ?_) (fun h1 => ?_)
  · refine go_iconst (pc := 10) (v := (-1)) dX0_hungry_10 (by decide) ?_
    exact go_ireturn (pc := 11) rfl dX0_hungry_11
  · refine go_iconst (pc := 12) (v := 0) dX0_hungry_12 (by decide) ?_
    refine go_istore_n (pc := 13) (j := 2) (i := 2) (A' := [(0, .ref self), (1, .int p0), (2, .int 0)]) rfl (by decide) rfl rfl rfl dX0_hungry_13 ?_
    refine go_iconst (pc := 14) (v := 0) dX0_hungry_14 (by decide) ?_
    refine go_istore_n (pc := 15) (j := 3) (i := 3) (A' := [(0, .ref self), (1, .int p0), (2, .int 0), (3, .int 0)]) rfl (by decide) rfl rfl rfl dX0_hungry_15 ?_
    exact go_weak (A' := [(0, .ref self), (1, .int p0), (2, .int 0), (3, .int 0)]) (B' := []) ⟨rfl, rfl, rfl, rfl, trivial⟩ rfl (fun q h => by cases h) (g_X0_hungry_L16 self p0 t_self zFu 0 0 u1)

def f_X0_keeps (self : Nat) (p0 : Int32) (p1 : Int32) (u : zM) : Option (Int32 × zM) := bd (f_X0_findHouse self p0 u) fun v1 u1 => oC v1 (some ((-1), u1)) fun n1 => bd (f_X0_in p1 1 99 u1) fun v2 u2 => if v2 = 0 then (some ((-1), u2)) else (if (mI u2 self 14) = 156 then (some ((-1), u2)) else (bd (f_X5_hours n1 (mI u2 self 14) u2) fun v3 u3 => lt (mR u3 n1 3) fun r1 => oB r1 fun n2 => bd (f_X0_hanksOf v3 (mI u3 n1 5) (mI u3 n1 7) (mI u3 n2 4) u3) fun v4 u4 => bd (f_X5_strength n1 u4) fun v5 u5 => bd (f_X0_asks self 1 n1 (mI u4 n1 1) (mI u4 n1 7) v5 v4 0 u5) fun v6 u6 => gz ((mI u6 n1 2) * p1) (some (((if 0 < v6 then v6 else 0) / ((mI u6 n1 2) * p1)), u6))))
set_option maxHeartbeats 4000000 in
theorem ct_X0_keeps (self : Nat) (p0 : Int32) (p1 : Int32) (t_self : kd self = 0) : zMet yX0_keeps cX0_keeps 5 (some .int) 6 156 rvI (obT) [.ref self, .int p0, .int p1] (f_X0_keeps self p0 p1) := by
  refine zMet_of (A := [(0, .ref self), (1, .int p0), (2, .int p1)]) (B := []) (ini := false) RX0 rfl (by decide +kernel) (fun h => by cases h) (by simp [lg_sl, Value.category]) (by simp [lv_args, Value.category]) rfl (by simp [lv_args, Value.category]) fun u => ?_
  unfold f_X0_keeps
  refine go_aload_n (pc := 0) (j := 0) (i := 0) dX0_keeps_0 rfl rfl ?_
  refine go_iload_n (pc := 1) (j := 1) (i := 1) dX0_keeps_1 rfl rfl ?_
  refine go_callVR (pc := 2) (ci := 0) (ct_X0_findHouse self p0 t_self) lk_X0_157 rfl rfl rfl (by decide) t_self ⟨by decide, by decide⟩ (Nat.le_of_ble_eq_true rfl) dX0_keeps_2 rfl fun v1 u1 t_v1 => ?_
  refine go_astore_nQ (pc := 5) (j := 3) (r := v1) (i := 3) (A' := [(0, .ref self), (1, .int p0), (2, .int p1), (3, va_rf v1)]) rfl (by decide) rfl rfl rfl dX0_keeps_5 ?_
  refine go_aload_nQ (pc := 6) (j := 3) (r := v1) (i := 3) dX0_keeps_6 rfl rfl ?_
  refine go_ifnull (pc := 7) (tgt := 30) dX0_keeps_7 (by decide) (fun e_n1 => ?_) (fun n1 e_n1 => ?_)
  · subst e_n1
    refine go_iconst (pc := 30) (v := (-1)) dX0_keeps_30 (by decide) ?_
    exact go_ireturn (pc := 31) rfl dX0_keeps_31
  · have t_n1 := t_v1 n1 e_n1
    subst e_n1
    refine go_iload_n (pc := 10) (j := 2) (i := 2) dX0_keeps_10 rfl rfl ?_
    refine go_iconst (pc := 11) (v := 1) dX0_keeps_11 (by decide) ?_
    refine go_bipush (pc := 12) (v := 99) dX0_keeps_12 (by decide) ?_
    refine go_callSI (pc := 14) (ct_X0_in p1 1 99) lk_X0_116 rfl ⟨by decide, by decide⟩ (Nat.le_of_ble_eq_true rfl) dX0_keeps_14 rfl fun v2 u2 => ?_
    refine go_if_eq (pc := 17) (tgt := 30) dX0_keeps_17 (by decide) (fun h1 => ?_) (fun h1 => ?_)
    · refine go_iconst (pc := 30) (v := (-1)) dX0_keeps_30 (by decide) ?_
      exact go_ireturn (pc := 31) rfl dX0_keeps_31
    · refine go_aload_n (pc := 20) (j := 0) (i := 0) dX0_keeps_20 rfl rfl ?_
      refine go_getI (pc := 21) (n := self) (ci := 0) (k := 14) fa_X0_151_0 t_self rfl dX0_keeps_21 ?_
      refine go_sipush (pc := 24) (v := 156) dX0_keeps_24 (by decide) ?_
      refine go_icmp_ne (pc := 27) (tgt := 32) dX0_keeps_27 (by decide) (fun h2 => ?_) (fun h2 => ?_)
      · refine go_iconst (pc := 30) (v := (-1)) dX0_keeps_30 (by decide) ?_
        exact go_ireturn (pc := 31) rfl dX0_keeps_31
      · refine go_aload_n (pc := 32) (j := 3) (i := 3) dX0_keeps_32 rfl rfl ?_
        refine go_aload_n (pc := 33) (j := 0) (i := 0) dX0_keeps_33 rfl rfl ?_
        refine go_getI (pc := 34) (n := self) (ci := 0) (k := 14) fa_X0_151_0 t_self rfl dX0_keeps_34 ?_
        refine go_callVI (pc := 37) (ci := 5) (ct_X5_hours n1 (mI u2 self 14) t_n1) lk_X0_230 rfl rfl rfl (by decide) t_n1 ⟨by decide, by decide⟩ (Nat.le_of_ble_eq_true rfl) dX0_keeps_37 rfl fun v3 u3 => ?_
        refine go_aload_n (pc := 40) (j := 3) (i := 3) dX0_keeps_40 rfl rfl ?_
        refine go_getI (pc := 41) (n := n1) (ci := 5) (k := 5) fa_X0_237_5 t_n1 rfl dX0_keeps_41 ?_
        refine go_aload_n (pc := 44) (j := 3) (i := 3) dX0_keeps_44 rfl rfl ?_
        refine go_getI (pc := 45) (n := n1) (ci := 5) (k := 7) fa_X0_173_5 t_n1 rfl dX0_keeps_45 ?_
        refine go_aload_n (pc := 48) (j := 3) (i := 3) dX0_keeps_48 rfl rfl ?_
        refine go_getR (pc := 49) (n := n1) (ci := 5) (k := 3) (t := 4) fa_X0_240_5 t_n1 rfl dX0_keeps_49 fun r1 t_r1 => ?_
        refine go_oB fun n2 e_n2 => ?_
        have t_n2 := t_r1 n2 e_n2
        subst e_n2
        refine go_getI (pc := 52) (n := n2) (ci := 4) (k := 4) fa_X0_180_4 t_n2 rfl dX0_keeps_52 ?_
        refine go_callSI (pc := 55) (ct_X0_hanksOf v3 (mI u3 n1 5) (mI u3 n1 7) (mI u3 n2 4)) lk_X0_244 rfl ⟨by decide, by decide⟩ (Nat.le_of_ble_eq_true rfl) dX0_keeps_55 rfl fun v4 u4 => ?_
        refine go_istore (pc := 58) (i := 4) (A' := [(0, .ref self), (1, .int p0), (2, .int p1), (3, .ref n1), (4, .int v4)]) (by decide) rfl rfl rfl dX0_keeps_58 ?_
        refine go_iconst (pc := 60) (v := 0) dX0_keeps_60 (by decide) ?_
        refine go_aload_n (pc := 61) (j := 0) (i := 0) dX0_keeps_61 rfl rfl ?_
        refine go_iconst (pc := 62) (v := 1) dX0_keeps_62 (by decide) ?_
        refine go_aload_n (pc := 63) (j := 3) (i := 3) dX0_keeps_63 rfl rfl ?_
        refine go_aload_n (pc := 64) (j := 3) (i := 3) dX0_keeps_64 rfl rfl ?_
        refine go_getI (pc := 65) (n := n1) (ci := 5) (k := 1) fa_X0_377_5 t_n1 rfl dX0_keeps_65 ?_
        refine go_aload_n (pc := 68) (j := 3) (i := 3) dX0_keeps_68 rfl rfl ?_
        refine go_getI (pc := 69) (n := n1) (ci := 5) (k := 7) fa_X0_173_5 t_n1 rfl dX0_keeps_69 ?_
        refine go_aload_n (pc := 72) (j := 3) (i := 3) dX0_keeps_72 rfl rfl ?_
        refine go_callVI (pc := 73) (ci := 5) (ct_X5_strength n1 t_n1) lk_X0_493 rfl rfl rfl (by decide) t_n1 ⟨by decide, by decide⟩ (Nat.le_of_ble_eq_true rfl) dX0_keeps_73 rfl fun v5 u5 => ?_
        refine go_iload (pc := 76) (i := 4) dX0_keeps_76 rfl ?_
        refine go_iconst (pc := 78) (v := 0) dX0_keeps_78 (by decide) ?_
        refine go_callVI (pc := 79) (ci := 0) (ct_X0_asks self 1 n1 (mI u4 n1 1) (mI u4 n1 7) v5 v4 0 t_self t_n1) lk_X0_386 rfl rfl rfl (by decide) t_self ⟨by decide, by decide⟩ (Nat.le_of_ble_eq_true rfl) dX0_keeps_79 rfl fun v6 u6 => ?_
        refine go_mmaxI (pc := 82) dX0_keeps_82 q672 q584 q102 q585 (by decide) (Nat.le_of_ble_eq_true rfl) ?_
        refine go_aload_n (pc := 85) (j := 3) (i := 3) dX0_keeps_85 rfl rfl ?_
        refine go_getI (pc := 86) (n := n1) (ci := 5) (k := 2) fa_X0_374_5 t_n1 rfl dX0_keeps_86 ?_
        refine go_iload_n (pc := 89) (j := 2) (i := 2) dX0_keeps_89 rfl rfl ?_
        refine go_imul (pc := 90) dX0_keeps_90 ?_
        refine go_gz fun h3 => ?_
        refine go_idiv (pc := 91) dX0_keeps_91 h3 ?_
        exact go_ireturn (pc := 92) rfl dX0_keeps_92

def f_X0_told (self : Nat) (p0 : Int32) (p1 : Int32) (u : zM) : Option (Int32 × zM) := bd (f_X0_in p0 0 ((mI u self 14) - 1) u) fun v1 u1 => if v1 = 0 then (some ((-1), u1)) else (bd (f_X0_in p1 0 5 u1) fun v2 u2 => if v2 = 0 then (some ((-1), u2)) else (lt (mR u2 self 11) fun r1 => oB r1 fun n1 => ix ((6 * p0) + p1) (mN u2 n1) (some ((mI u2 n1 (xN ((6 * p0) + p1))), u2))))
set_option maxHeartbeats 4000000 in
theorem ct_X0_told (self : Nat) (p0 : Int32) (p1 : Int32) (t_self : kd self = 0) : zMet yX0_told cX0_told 3 (some .int) 2 22 rvI (obT) [.ref self, .int p0, .int p1] (f_X0_told self p0 p1) := by
  refine zMet_of (A := [(0, .ref self), (1, .int p0), (2, .int p1)]) (B := []) (ini := false) RX0 rfl (by decide +kernel) (fun h => by cases h) (by simp [lg_sl, Value.category]) (by simp [lv_args, Value.category]) rfl (by simp [lv_args, Value.category]) fun u => ?_
  unfold f_X0_told
  refine go_iload_n (pc := 0) (j := 1) (i := 1) dX0_told_0 rfl rfl ?_
  refine go_iconst (pc := 1) (v := 0) dX0_told_1 (by decide) ?_
  refine go_aload_n (pc := 2) (j := 0) (i := 0) dX0_told_2 rfl rfl ?_
  refine go_getI (pc := 3) (n := self) (ci := 0) (k := 14) fa_X0_151_0 t_self rfl dX0_told_3 ?_
  refine go_iconst (pc := 6) (v := 1) dX0_told_6 (by decide) ?_
  refine go_isub (pc := 7) dX0_told_7 ?_
  refine go_callSI (pc := 8) (ct_X0_in p0 0 ((mI u self 14) - 1)) lk_X0_116 rfl ⟨by decide, by decide⟩ (Nat.le_of_ble_eq_true rfl) dX0_told_8 rfl fun v1 u1 => ?_
  refine go_if_eq (pc := 11) (tgt := 37) dX0_told_11 (by decide) (fun h1 => ?_) (fun h1 => ?_)
  · refine go_iconst (pc := 37) (v := (-1)) dX0_told_37 (by decide) ?_
    exact go_ireturn (pc := 38) rfl dX0_told_38
  · refine go_iload_n (pc := 14) (j := 2) (i := 2) dX0_told_14 rfl rfl ?_
    refine go_iconst (pc := 15) (v := 0) dX0_told_15 (by decide) ?_
    refine go_iconst (pc := 16) (v := 5) dX0_told_16 (by decide) ?_
    refine go_callSI (pc := 17) (ct_X0_in p1 0 5) lk_X0_116 rfl ⟨by decide, by decide⟩ (Nat.le_of_ble_eq_true rfl) dX0_told_17 rfl fun v2 u2 => ?_
    refine go_if_eq (pc := 20) (tgt := 37) dX0_told_20 (by decide) (fun h2 => ?_) (fun h2 => ?_)
    · refine go_iconst (pc := 37) (v := (-1)) dX0_told_37 (by decide) ?_
      exact go_ireturn (pc := 38) rfl dX0_told_38
    · refine go_aload_n (pc := 23) (j := 0) (i := 0) dX0_told_23 rfl rfl ?_
      refine go_getR (pc := 24) (n := self) (ci := 0) (k := 11) (t := 13) fa_X0_71_0 t_self rfl dX0_told_24 fun r1 t_r1 => ?_
      refine go_bipush (pc := 27) (v := 6) dX0_told_27 (by decide) ?_
      refine go_iload_n (pc := 29) (j := 1) (i := 1) dX0_told_29 rfl rfl ?_
      refine go_imul (pc := 30) dX0_told_30 ?_
      refine go_iload_n (pc := 31) (j := 2) (i := 2) dX0_told_31 rfl rfl ?_
      refine go_iadd (pc := 32) dX0_told_32 ?_
      refine go_oB fun n1 e_n1 => ?_
      have t_n1 := t_r1 n1 e_n1
      subst e_n1
      refine go_iald (pc := 33) t_n1 dX0_told_33 ?_
      refine go_goto (pc := 34) (tgt := 38) dX0_told_34 (by decide) ?_
      exact go_ireturn (pc := 38) rfl dX0_told_38

def f_X0_with (self : Nat) (p0 : Int32) (p1 : Int32) (p2 : Int32) (p3 : Int32) (u : zM) : Option (Int32 × zM) := if p1 = p2 then (lt (mR u self 11) fun r1 => oB r1 fun n1 => ix ((6 * p0) + p1) (mN u n1) (some (((mI u n1 (xN ((6 * p0) + p1))) ^^^ p3), u))) else (lt (mR u self 11) fun r2 => oB r2 fun n2 => ix ((6 * p0) + p1) (mN u n2) (some ((mI u n2 (xN ((6 * p0) + p1))), u)))
set_option maxHeartbeats 4000000 in
theorem ct_X0_with (self : Nat) (p0 : Int32) (p1 : Int32) (p2 : Int32) (p3 : Int32) (t_self : kd self = 0) : zMet yX0_with cX0_with 5 (some .int) 1 0 rvI (obT) [.ref self, .int p0, .int p1, .int p2, .int p3] (f_X0_with self p0 p1 p2 p3) := by
  refine zMet_of (A := [(0, .ref self), (1, .int p0), (2, .int p1), (3, .int p2), (4, .int p3)]) (B := []) (ini := false) RX0 rfl (by decide +kernel) (fun h => by cases h) (by simp [lg_sl, Value.category]) (by simp [lv_args, Value.category]) rfl (by simp [lv_args, Value.category]) fun u => ?_
  unfold f_X0_with
  refine go_iload_n (pc := 0) (j := 2) (i := 2) dX0_with_0 rfl rfl ?_
  refine go_iload_n (pc := 1) (j := 3) (i := 3) dX0_with_1 rfl rfl ?_
  refine go_icmp_ne (pc := 2) (tgt := 22) dX0_with_2 (by decide) (fun h1 => ?_) (fun h1 => ?_)
  · refine go_aload_n (pc := 5) (j := 0) (i := 0) dX0_with_5 rfl rfl ?_
    refine go_getR (pc := 6) (n := self) (ci := 0) (k := 11) (t := 13) fa_X0_71_0 t_self rfl dX0_with_6 fun r1 t_r1 => ?_
    refine go_bipush (pc := 9) (v := 6) dX0_with_9 (by decide) ?_
    refine go_iload_n (pc := 11) (j := 1) (i := 1) dX0_with_11 rfl rfl ?_
    refine go_imul (pc := 12) dX0_with_12 ?_
    refine go_iload_n (pc := 13) (j := 2) (i := 2) dX0_with_13 rfl rfl ?_
    refine go_iadd (pc := 14) dX0_with_14 ?_
    refine go_oB fun n1 e_n1 => ?_
    have t_n1 := t_r1 n1 e_n1
    subst e_n1
    refine go_iald (pc := 15) t_n1 dX0_with_15 ?_
    refine go_iload (pc := 16) (i := 4) dX0_with_16 rfl ?_
    refine go_ixor (pc := 18) dX0_with_18 ?_
    refine go_goto (pc := 19) (tgt := 33) dX0_with_19 (by decide) ?_
    exact go_ireturn (pc := 33) rfl dX0_with_33
  · refine go_aload_n (pc := 22) (j := 0) (i := 0) dX0_with_22 rfl rfl ?_
    refine go_getR (pc := 23) (n := self) (ci := 0) (k := 11) (t := 13) fa_X0_71_0 t_self rfl dX0_with_23 fun r2 t_r2 => ?_
    refine go_bipush (pc := 26) (v := 6) dX0_with_26 (by decide) ?_
    refine go_iload_n (pc := 28) (j := 1) (i := 1) dX0_with_28 rfl rfl ?_
    refine go_imul (pc := 29) dX0_with_29 ?_
    refine go_iload_n (pc := 30) (j := 2) (i := 2) dX0_with_30 rfl rfl ?_
    refine go_iadd (pc := 31) dX0_with_31 ?_
    refine go_oB fun n2 e_n2 => ?_
    have t_n2 := t_r2 n2 e_n2
    subst e_n2
    refine go_iald (pc := 32) t_n2 dX0_with_32 ?_
    exact go_ireturn (pc := 33) rfl dX0_with_33

def f_X0_check (self : Nat) (p0 : Int32) (p1 : Int32) (p2 : Int32) (u : zM) : Option (Int32 × zM) := bd (f_X0_told self p0 p1 u) fun v1 u1 => lt (fun (u2 : zM) => bd (f_X0_with self p0 1 p1 p2 u2) fun v2 u3 => bd (f_X0_with self p0 5 p1 p2 u3) fun v3 u4 => bd (f_X0_with self p0 2 p1 p2 u4) fun v4 u5 => bd (f_X0_with self p0 3 p1 p2 u5) fun v5 u6 => bd (f_X0_with self p0 4 p1 p2 u6) fun v6 u7 => if (lg_cmp (((Int32.toInt64 v4) + (Int32.toInt64 v5)) + (Int32.toInt64 v6)) (Int32.toInt64 v3)) = 0 then (if p0 = 0 then (if (lg_cmp (0 + (Int32.toInt64 v2)) (Int32.toInt64 v3)) = 0 then (some (0, u7)) else (some (2, u7))) else (lt (mR u7 self 11) fun r1 => oB r1 fun n1 => ix ((6 * (p0 - 1)) + 5) (mN u7 n1) (if (lg_cmp ((Int32.toInt64 (mI u7 n1 (xN ((6 * (p0 - 1)) + 5)))) + (Int32.toInt64 v2)) (Int32.toInt64 v3)) = 0 then (some (0, u7)) else (some (2, u7))))) else (some (1, u7))) fun j1 => if v1 = (-1) then (bd (f_X0_in p0 0 ((mI u1 self 14) - 1) u1) fun v7 u8 => if v7 = 0 then (some ((-1), u8)) else (bd (f_X0_in p1 0 5 u8) fun v8 u9 => if v8 = 0 then (some ((-1), u9)) else (j1 u9))) else (j1 u1)
set_option maxHeartbeats 4000000 in
theorem ct_X0_check (self : Nat) (p0 : Int32) (p1 : Int32) (p2 : Int32) (t_self : kd self = 0) : zMet yX0_check cX0_check 10 (some .int) 3 44 rvI (obT) [.ref self, .int p0, .int p1, .int p2] (f_X0_check self p0 p1 p2) := by
  refine zMet_of (A := [(0, .ref self), (1, .int p0), (2, .int p1), (3, .int p2)]) (B := []) (ini := false) RX0 rfl (by decide +kernel) (fun h => by cases h) (by simp [lg_sl, Value.category]) (by simp [lv_args, Value.category]) rfl (by simp [lv_args, Value.category]) fun u => ?_
  unfold f_X0_check
  refine go_aload_n (pc := 0) (j := 0) (i := 0) dX0_check_0 rfl rfl ?_
  refine go_iload_n (pc := 1) (j := 1) (i := 1) dX0_check_1 rfl rfl ?_
  refine go_iload_n (pc := 2) (j := 2) (i := 2) dX0_check_2 rfl rfl ?_
  refine go_callVI (pc := 3) (ci := 0) (ct_X0_told self p0 p1 t_self) lk_X0_496 rfl rfl rfl (by decide) t_self ⟨by decide, by decide⟩ (Nat.le_of_ble_eq_true rfl) dX0_check_3 rfl fun v1 u1 => ?_
  refine go_iconst (pc := 6) (v := (-1)) dX0_check_6 (by decide) ?_
  refine go_join0 (pcx := 35) ([(0, .ref self), (1, .int p0), (2, .int p1), (3, .int p2)]) ([]) ([]) (True) (fun u2 _ => ?_) (fun j1 hj1 => ?_)
  · refine go_aload_n (pc := 35) (j := 0) (i := 0) dX0_check_35 rfl rfl ?_
    refine go_iload_n (pc := 36) (j := 1) (i := 1) dX0_check_36 rfl rfl ?_
    refine go_iconst (pc := 37) (v := 1) dX0_check_37 (by decide) ?_
    refine go_iload_n (pc := 38) (j := 2) (i := 2) dX0_check_38 rfl rfl ?_
    refine go_iload_n (pc := 39) (j := 3) (i := 3) dX0_check_39 rfl rfl ?_
    refine go_callVI (pc := 40) (ci := 0) (ct_X0_with self p0 1 p1 p2 t_self) lk_X0_498 rfl rfl rfl (by decide) t_self ⟨by decide, by decide⟩ (Nat.le_of_ble_eq_true rfl) dX0_check_40 rfl fun v2 u3 => ?_
    refine go_i2l (pc := 43) dX0_check_43 ?_
    refine go_lstore (pc := 44) (i := 4) (A' := [(0, .ref self), (1, .int p0), (2, .int p1), (3, .int p2)]) (B' := [(4, (Int32.toInt64 v2))]) (by decide) (by simp) rfl (by simp) dX0_check_44 ?_
    refine go_aload_n (pc := 46) (j := 0) (i := 0) dX0_check_46 rfl rfl ?_
    refine go_iload_n (pc := 47) (j := 1) (i := 1) dX0_check_47 rfl rfl ?_
    refine go_iconst (pc := 48) (v := 5) dX0_check_48 (by decide) ?_
    refine go_iload_n (pc := 49) (j := 2) (i := 2) dX0_check_49 rfl rfl ?_
    refine go_iload_n (pc := 50) (j := 3) (i := 3) dX0_check_50 rfl rfl ?_
    refine go_callVI (pc := 51) (ci := 0) (ct_X0_with self p0 5 p1 p2 t_self) lk_X0_498 rfl rfl rfl (by decide) t_self ⟨by decide, by decide⟩ (Nat.le_of_ble_eq_true rfl) dX0_check_51 rfl fun v3 u4 => ?_
    refine go_i2l (pc := 54) dX0_check_54 ?_
    refine go_lstore (pc := 55) (i := 6) (A' := [(0, .ref self), (1, .int p0), (2, .int p1), (3, .int p2)]) (B' := [(4, (Int32.toInt64 v2)), (6, (Int32.toInt64 v3))]) (by decide) (by simp) rfl (by simp) dX0_check_55 ?_
    refine go_aload_n (pc := 57) (j := 0) (i := 0) dX0_check_57 rfl rfl ?_
    refine go_iload_n (pc := 58) (j := 1) (i := 1) dX0_check_58 rfl rfl ?_
    refine go_iconst (pc := 59) (v := 2) dX0_check_59 (by decide) ?_
    refine go_iload_n (pc := 60) (j := 2) (i := 2) dX0_check_60 rfl rfl ?_
    refine go_iload_n (pc := 61) (j := 3) (i := 3) dX0_check_61 rfl rfl ?_
    refine go_callVI (pc := 62) (ci := 0) (ct_X0_with self p0 2 p1 p2 t_self) lk_X0_498 rfl rfl rfl (by decide) t_self ⟨by decide, by decide⟩ (Nat.le_of_ble_eq_true rfl) dX0_check_62 rfl fun v4 u5 => ?_
    refine go_i2l (pc := 65) dX0_check_65 ?_
    refine go_aload_n (pc := 66) (j := 0) (i := 0) dX0_check_66 rfl rfl ?_
    refine go_iload_n (pc := 67) (j := 1) (i := 1) dX0_check_67 rfl rfl ?_
    refine go_iconst (pc := 68) (v := 3) dX0_check_68 (by decide) ?_
    refine go_iload_n (pc := 69) (j := 2) (i := 2) dX0_check_69 rfl rfl ?_
    refine go_iload_n (pc := 70) (j := 3) (i := 3) dX0_check_70 rfl rfl ?_
    refine go_callVI (pc := 71) (ci := 0) (ct_X0_with self p0 3 p1 p2 t_self) lk_X0_498 rfl rfl rfl (by decide) t_self ⟨by decide, by decide⟩ (Nat.le_of_ble_eq_true rfl) dX0_check_71 rfl fun v5 u6 => ?_
    refine go_i2l (pc := 74) dX0_check_74 ?_
    refine go_ladd (pc := 75) dX0_check_75  ?_
    refine go_aload_n (pc := 76) (j := 0) (i := 0) dX0_check_76 rfl rfl ?_
    refine go_iload_n (pc := 77) (j := 1) (i := 1) dX0_check_77 rfl rfl ?_
    refine go_iconst (pc := 78) (v := 4) dX0_check_78 (by decide) ?_
    refine go_iload_n (pc := 79) (j := 2) (i := 2) dX0_check_79 rfl rfl ?_
    refine go_iload_n (pc := 80) (j := 3) (i := 3) dX0_check_80 rfl rfl ?_
    refine go_callVI (pc := 81) (ci := 0) (ct_X0_with self p0 4 p1 p2 t_self) lk_X0_498 rfl rfl rfl (by decide) t_self ⟨by decide, by decide⟩ (Nat.le_of_ble_eq_true rfl) dX0_check_81 rfl fun v6 u7 => ?_
    refine go_i2l (pc := 84) dX0_check_84 ?_
    refine go_ladd (pc := 85) dX0_check_85  ?_
    refine go_lload (pc := 86) (i := 6) dX0_check_86 1 rfl ?_
    refine go_lcmp (pc := 88) dX0_check_88 ?_
    refine go_if_eq (pc := 89) (tgt := 94) dX0_check_89 (by decide) (fun h1 => ?_) (fun h1 => ?_)
    · refine go_iload_n (pc := 94) (j := 1) (i := 1) dX0_check_94 rfl rfl ?_
      refine go_if_ne (pc := 95) (tgt := 102) dX0_check_95 (by decide) (fun h2 => ?_) (fun h2 => ?_)
      · refine go_lconst (pc := 98) (v := 0) dX0_check_98 (by decide) ?_
        refine go_goto (pc := 99) (tgt := 116) dX0_check_99 (by decide) ?_
        refine go_lstore (pc := 116) (i := 8) (A' := [(0, .ref self), (1, .int p0), (2, .int p1), (3, .int p2)]) (B' := [(4, (Int32.toInt64 v2)), (6, (Int32.toInt64 v3)), (8, 0)]) (by decide) (by simp) rfl (by simp) dX0_check_116 ?_
        refine go_lload (pc := 118) (i := 8) dX0_check_118 2 rfl ?_
        refine go_lload (pc := 120) (i := 4) dX0_check_120 0 rfl ?_
        refine go_ladd (pc := 122) dX0_check_122  ?_
        refine go_lload (pc := 123) (i := 6) dX0_check_123 1 rfl ?_
        refine go_lcmp (pc := 125) dX0_check_125 ?_
        refine go_if_ne (pc := 126) (tgt := 133) dX0_check_126 (by decide) (fun h3 => ?_) (fun h3 => ?_)
        · refine go_iconst (pc := 129) (v := 0) dX0_check_129 (by decide) ?_
          refine go_goto (pc := 130) (tgt := 134) dX0_check_130 (by decide) ?_
          exact go_ireturn (pc := 134) rfl dX0_check_134
        · refine go_iconst (pc := 133) (v := 2) dX0_check_133 (by decide) ?_
          exact go_ireturn (pc := 134) rfl dX0_check_134
      · refine go_aload_n (pc := 102) (j := 0) (i := 0) dX0_check_102 rfl rfl ?_
        refine go_getR (pc := 103) (n := self) (ci := 0) (k := 11) (t := 13) fa_X0_71_0 t_self rfl dX0_check_103 fun r1 t_r1 => ?_
        refine go_bipush (pc := 106) (v := 6) dX0_check_106 (by decide) ?_
        refine go_iload_n (pc := 108) (j := 1) (i := 1) dX0_check_108 rfl rfl ?_
        refine go_iconst (pc := 109) (v := 1) dX0_check_109 (by decide) ?_
        refine go_isub (pc := 110) dX0_check_110 ?_
        refine go_imul (pc := 111) dX0_check_111 ?_
        refine go_iconst (pc := 112) (v := 5) dX0_check_112 (by decide) ?_
        refine go_iadd (pc := 113) dX0_check_113 ?_
        refine go_oB fun n1 e_n1 => ?_
        have t_n1 := t_r1 n1 e_n1
        subst e_n1
        refine go_iald (pc := 114) t_n1 dX0_check_114 ?_
        refine go_i2l (pc := 115) dX0_check_115 ?_
        refine go_lstore (pc := 116) (i := 8) (A' := [(0, .ref self), (1, .int p0), (2, .int p1), (3, .int p2)]) (B' := [(4, (Int32.toInt64 v2)), (6, (Int32.toInt64 v3)), (8, (Int32.toInt64 (mI u7 n1 (xN ((6 * (p0 - 1)) + 5)))))]) (by decide) (by simp) rfl (by simp) dX0_check_116 ?_
        refine go_lload (pc := 118) (i := 8) dX0_check_118 2 rfl ?_
        refine go_lload (pc := 120) (i := 4) dX0_check_120 0 rfl ?_
        refine go_ladd (pc := 122) dX0_check_122  ?_
        refine go_lload (pc := 123) (i := 6) dX0_check_123 1 rfl ?_
        refine go_lcmp (pc := 125) dX0_check_125 ?_
        refine go_if_ne (pc := 126) (tgt := 133) dX0_check_126 (by decide) (fun h4 => ?_) (fun h4 => ?_)
        · refine go_iconst (pc := 129) (v := 0) dX0_check_129 (by decide) ?_
          refine go_goto (pc := 130) (tgt := 134) dX0_check_130 (by decide) ?_
          exact go_ireturn (pc := 134) rfl dX0_check_134
        · refine go_iconst (pc := 133) (v := 2) dX0_check_133 (by decide) ?_
          exact go_ireturn (pc := 134) rfl dX0_check_134
    · refine go_iconst (pc := 92) (v := 1) dX0_check_92 (by decide) ?_
      exact go_ireturn (pc := 93) rfl dX0_check_93
  · refine go_icmp_ne (pc := 7) (tgt := 35) dX0_check_7 (by decide) (fun h5 => ?_) (fun h5 => ?_)
    · refine go_iload_n (pc := 10) (j := 1) (i := 1) dX0_check_10 rfl rfl ?_
      refine go_iconst (pc := 11) (v := 0) dX0_check_11 (by decide) ?_
      refine go_aload_n (pc := 12) (j := 0) (i := 0) dX0_check_12 rfl rfl ?_
      refine go_getI (pc := 13) (n := self) (ci := 0) (k := 14) fa_X0_151_0 t_self rfl dX0_check_13 ?_
      refine go_iconst (pc := 16) (v := 1) dX0_check_16 (by decide) ?_
      refine go_isub (pc := 17) dX0_check_17 ?_
      refine go_callSI (pc := 18) (ct_X0_in p0 0 ((mI u1 self 14) - 1)) lk_X0_116 rfl ⟨by decide, by decide⟩ (Nat.le_of_ble_eq_true rfl) dX0_check_18 rfl fun v7 u8 => ?_
      refine go_if_eq (pc := 21) (tgt := 33) dX0_check_21 (by decide) (fun h6 => ?_) (fun h6 => ?_)
      · refine go_iconst (pc := 33) (v := (-1)) dX0_check_33 (by decide) ?_
        exact go_ireturn (pc := 34) rfl dX0_check_34
      · refine go_iload_n (pc := 24) (j := 2) (i := 2) dX0_check_24 rfl rfl ?_
        refine go_iconst (pc := 25) (v := 0) dX0_check_25 (by decide) ?_
        refine go_iconst (pc := 26) (v := 5) dX0_check_26 (by decide) ?_
        refine go_callSI (pc := 27) (ct_X0_in p1 0 5) lk_X0_116 rfl ⟨by decide, by decide⟩ (Nat.le_of_ble_eq_true rfl) dX0_check_27 rfl fun v8 u9 => ?_
        refine go_if_ne (pc := 30) (tgt := 35) dX0_check_30 (by decide) (fun h7 => ?_) (fun h7 => ?_)
        · refine go_iconst (pc := 33) (v := (-1)) dX0_check_33 (by decide) ?_
          exact go_ireturn (pc := 34) rfl dX0_check_34
        · exact go_weak (A' := [(0, .ref self), (1, .int p0), (2, .int p1), (3, .int p2)]) (B' := []) ⟨rfl, rfl, rfl, rfl, trivial⟩ rfl (fun q h => by cases h) (hj1 u9 trivial)
    · exact go_weak (A' := [(0, .ref self), (1, .int p0), (2, .int p1), (3, .int p2)]) (B' := []) ⟨rfl, rfl, rfl, rfl, trivial⟩ rfl (fun q h => by cases h) (hj1 u1 trivial)

def f_X0_is (self : Nat) (p0 : Int32) (p1 : Int32) (u : zM) : Option (Int32 × zM) := bd (f_X0_findVillage self p0 u) fun v1 u1 => oC v1 (some ((-1), u1)) fun n1 => if p1 = 0 then (some ((mI u1 n1 4), u1)) else (if p1 = 1 then (some ((mI u1 n1 5), u1)) else (if p1 = 2 then (some ((mI u1 n1 6), u1)) else (if p1 = 3 then (some ((mI u1 n1 7), u1)) else (if p1 = 4 then (some ((mI u1 n1 8), u1)) else (if p1 = 5 then (some ((mI u1 n1 9), u1)) else (if p1 = 6 then (some ((mI u1 n1 10), u1)) else (if p1 = 7 then (some ((mI u1 n1 12), u1)) else (if p1 = 8 then (some ((mI u1 n1 13), u1)) else (if p1 = 9 then (some ((mI u1 n1 15), u1)) else (if p1 = 10 then (some ((mI u1 n1 16), u1)) else (some ((-1), u1))))))))))))
set_option maxHeartbeats 4000000 in
theorem ct_X0_is (self : Nat) (p0 : Int32) (p1 : Int32) (t_self : kd self = 0) : zMet yX0_is cX0_is 4 (some .int) 3 43 rvI (obT) [.ref self, .int p0, .int p1] (f_X0_is self p0 p1) := by
  refine zMet_of (A := [(0, .ref self), (1, .int p0), (2, .int p1)]) (B := []) (ini := false) RX0 rfl (by decide +kernel) (fun h => by cases h) (by simp [lg_sl, Value.category]) (by simp [lv_args, Value.category]) rfl (by simp [lv_args, Value.category]) fun u => ?_
  unfold f_X0_is
  refine go_aload_n (pc := 0) (j := 0) (i := 0) dX0_is_0 rfl rfl ?_
  refine go_iload_n (pc := 1) (j := 1) (i := 1) dX0_is_1 rfl rfl ?_
  refine go_callVR (pc := 2) (ci := 0) (ct_X0_findVillage self p0 t_self) lk_X0_136 rfl rfl rfl (by decide) t_self ⟨by decide, by decide⟩ (Nat.le_of_ble_eq_true rfl) dX0_is_2 rfl fun v1 u1 t_v1 => ?_
  refine go_astore_nQ (pc := 5) (j := 3) (r := v1) (i := 3) (A' := [(0, .ref self), (1, .int p0), (2, .int p1), (3, va_rf v1)]) rfl (by decide) rfl rfl rfl dX0_is_5 ?_
  refine go_aload_nQ (pc := 6) (j := 3) (r := v1) (i := 3) dX0_is_6 rfl rfl ?_
  refine go_ifnonnull (pc := 7) (tgt := 12) dX0_is_7 (by decide) (fun e_n1 => ?_) (fun n1 e_n1 => ?_)
  · subst e_n1
    refine go_iconst (pc := 10) (v := (-1)) dX0_is_10 (by decide) ?_
    exact go_ireturn (pc := 11) rfl dX0_is_11
  · have t_n1 := t_v1 n1 e_n1
    subst e_n1
    refine go_iload_n (pc := 12) (j := 2) (i := 2) dX0_is_12 rfl rfl ?_
    refine go_if (fun h1 => ?_) (fun h1 => ?_)
    · refine go_tableIn (pc := 13) (tgt := 72) 0 h1 dX0_is_13 (by decide) (by decide) rfl (by decide) ?_
      refine go_aload_n (pc := 72) (j := 3) (i := 3) dX0_is_72 rfl rfl ?_
      refine go_getI (pc := 73) (n := n1) (ci := 4) (k := 4) fa_X0_180_4 t_n1 rfl dX0_is_73 ?_
      exact go_ireturn (pc := 76) rfl dX0_is_76
    refine go_if (fun h2 => ?_) (fun h2 => ?_)
    · refine go_tableIn (pc := 13) (tgt := 77) 1 h2 dX0_is_13 (by decide) (by decide) rfl (by decide) ?_
      refine go_aload_n (pc := 77) (j := 3) (i := 3) dX0_is_77 rfl rfl ?_
      refine go_getI (pc := 78) (n := n1) (ci := 4) (k := 5) fa_X0_468_4 t_n1 rfl dX0_is_78 ?_
      exact go_ireturn (pc := 81) rfl dX0_is_81
    refine go_if (fun h3 => ?_) (fun h3 => ?_)
    · refine go_tableIn (pc := 13) (tgt := 82) 2 h3 dX0_is_13 (by decide) (by decide) rfl (by decide) ?_
      refine go_aload_n (pc := 82) (j := 3) (i := 3) dX0_is_82 rfl rfl ?_
      refine go_getI (pc := 83) (n := n1) (ci := 4) (k := 6) fa_X0_471_4 t_n1 rfl dX0_is_83 ?_
      exact go_ireturn (pc := 86) rfl dX0_is_86
    refine go_if (fun h4 => ?_) (fun h4 => ?_)
    · refine go_tableIn (pc := 13) (tgt := 87) 3 h4 dX0_is_13 (by decide) (by decide) rfl (by decide) ?_
      refine go_aload_n (pc := 87) (j := 3) (i := 3) dX0_is_87 rfl rfl ?_
      refine go_getI (pc := 88) (n := n1) (ci := 4) (k := 7) fa_X0_277_4 t_n1 rfl dX0_is_88 ?_
      exact go_ireturn (pc := 91) rfl dX0_is_91
    refine go_if (fun h5 => ?_) (fun h5 => ?_)
    · refine go_tableIn (pc := 13) (tgt := 92) 4 h5 dX0_is_13 (by decide) (by decide) rfl (by decide) ?_
      refine go_aload_n (pc := 92) (j := 3) (i := 3) dX0_is_92 rfl rfl ?_
      refine go_getI (pc := 93) (n := n1) (ci := 4) (k := 8) fa_X0_274_4 t_n1 rfl dX0_is_93 ?_
      exact go_ireturn (pc := 96) rfl dX0_is_96
    refine go_if (fun h6 => ?_) (fun h6 => ?_)
    · refine go_tableIn (pc := 13) (tgt := 97) 5 h6 dX0_is_13 (by decide) (by decide) rfl (by decide) ?_
      refine go_aload_n (pc := 97) (j := 3) (i := 3) dX0_is_97 rfl rfl ?_
      refine go_getI (pc := 98) (n := n1) (ci := 4) (k := 9) fa_X0_224_4 t_n1 rfl dX0_is_98 ?_
      exact go_ireturn (pc := 101) rfl dX0_is_101
    refine go_if (fun h7 => ?_) (fun h7 => ?_)
    · refine go_tableIn (pc := 13) (tgt := 102) 6 h7 dX0_is_13 (by decide) (by decide) rfl (by decide) ?_
      refine go_aload_n (pc := 102) (j := 3) (i := 3) dX0_is_102 rfl rfl ?_
      refine go_getI (pc := 103) (n := n1) (ci := 4) (k := 10) fa_X0_280_4 t_n1 rfl dX0_is_103 ?_
      exact go_ireturn (pc := 106) rfl dX0_is_106
    refine go_if (fun h8 => ?_) (fun h8 => ?_)
    · refine go_tableIn (pc := 13) (tgt := 107) 7 h8 dX0_is_13 (by decide) (by decide) rfl (by decide) ?_
      refine go_aload_n (pc := 107) (j := 3) (i := 3) dX0_is_107 rfl rfl ?_
      refine go_getI (pc := 108) (n := n1) (ci := 4) (k := 12) fa_X0_501_4 t_n1 rfl dX0_is_108 ?_
      exact go_ireturn (pc := 111) rfl dX0_is_111
    refine go_if (fun h9 => ?_) (fun h9 => ?_)
    · refine go_tableIn (pc := 13) (tgt := 112) 8 h9 dX0_is_13 (by decide) (by decide) rfl (by decide) ?_
      refine go_aload_n (pc := 112) (j := 3) (i := 3) dX0_is_112 rfl rfl ?_
      refine go_getI (pc := 113) (n := n1) (ci := 4) (k := 13) fa_X0_477_4 t_n1 rfl dX0_is_113 ?_
      exact go_ireturn (pc := 116) rfl dX0_is_116
    refine go_if (fun h10 => ?_) (fun h10 => ?_)
    · refine go_tableIn (pc := 13) (tgt := 117) 9 h10 dX0_is_13 (by decide) (by decide) rfl (by decide) ?_
      refine go_aload_n (pc := 117) (j := 3) (i := 3) dX0_is_117 rfl rfl ?_
      refine go_getI (pc := 118) (n := n1) (ci := 4) (k := 15) fa_X0_480_4 t_n1 rfl dX0_is_118 ?_
      exact go_ireturn (pc := 121) rfl dX0_is_121
    refine go_if (fun h11 => ?_) (fun h11 => ?_)
    · refine go_tableIn (pc := 13) (tgt := 122) 10 h11 dX0_is_13 (by decide) (by decide) rfl (by decide) ?_
      refine go_aload_n (pc := 122) (j := 3) (i := 3) dX0_is_122 rfl rfl ?_
      refine go_getI (pc := 123) (n := n1) (ci := 4) (k := 16) fa_X0_504_4 t_n1 rfl dX0_is_123 ?_
      exact go_ireturn (pc := 126) rfl dX0_is_126
    refine go_tableD (pc := 13) (x := p1) (tgt := 127) dX0_is_13 (by decide) (fun a b => ?_) ?_
    · rcases (show Int32.toInt p1 = 0 ∨ Int32.toInt p1 = 1 ∨ Int32.toInt p1 = 2 ∨ Int32.toInt p1 = 3 ∨ Int32.toInt p1 = 4 ∨ Int32.toInt p1 = 5 ∨ Int32.toInt p1 = 6 ∨ Int32.toInt p1 = 7 ∨ Int32.toInt p1 = 8 ∨ Int32.toInt p1 = 9 ∨ Int32.toInt p1 = 10 by omega) with e | e | e | e | e | e | e | e | e | e | e
      · exact absurd (sw_eq (v := 0) (e.trans (by decide))) h1
      · exact absurd (sw_eq (v := 1) (e.trans (by decide))) h2
      · exact absurd (sw_eq (v := 2) (e.trans (by decide))) h3
      · exact absurd (sw_eq (v := 3) (e.trans (by decide))) h4
      · exact absurd (sw_eq (v := 4) (e.trans (by decide))) h5
      · exact absurd (sw_eq (v := 5) (e.trans (by decide))) h6
      · exact absurd (sw_eq (v := 6) (e.trans (by decide))) h7
      · exact absurd (sw_eq (v := 7) (e.trans (by decide))) h8
      · exact absurd (sw_eq (v := 8) (e.trans (by decide))) h9
      · exact absurd (sw_eq (v := 9) (e.trans (by decide))) h10
      · exact absurd (sw_eq (v := 10) (e.trans (by decide))) h11
    · refine go_iconst (pc := 127) (v := (-1)) dX0_is_127 (by decide) ?_
      exact go_ireturn (pc := 128) rfl dX0_is_128

def f_X0_has (self : Nat) (p0 : Int32) (p1 : Int32) (u : zM) : Option (Int32 × zM) := bd (f_X0_findHouse self p0 u) fun v1 u1 => oC v1 (some ((-2147483648), u1)) fun n1 => if p1 = 0 then (lt (mR u1 n1 3) fun r1 => oB r1 fun n2 => some ((mI u1 n2 0), u1)) else (if p1 = 1 then (some ((mI u1 n1 4), u1)) else (if p1 = 2 then (some ((mI u1 n1 5), u1)) else (if p1 = 3 then (some ((mI u1 n1 1), u1)) else (if p1 = 4 then (some ((mI u1 n1 2), u1)) else (if p1 = 5 then (some ((mI u1 n1 6), u1)) else (if p1 = 6 then (some ((mI u1 n1 7), u1)) else (if p1 = 7 then (some ((mI u1 n1 8), u1)) else (if p1 = 8 then (some ((mI u1 n1 9), u1)) else (if p1 = 9 then (some ((mI u1 n1 10), u1)) else (if p1 = 10 then (lt (mR u1 n1 15) fun r2 => oC r2 (some ((-1), u1)) fun n3 => lt (mR u1 n1 15) fun r3 => oB r3 fun n4 => some ((mI u1 n4 3), u1)) else (some ((-2147483648), u1))))))))))))
set_option maxHeartbeats 4000000 in
theorem ct_X0_has (self : Nat) (p0 : Int32) (p1 : Int32) (t_self : kd self = 0) : zMet yX0_has cX0_has 4 (some .int) 3 43 rvI (obT) [.ref self, .int p0, .int p1] (f_X0_has self p0 p1) := by
  refine zMet_of (A := [(0, .ref self), (1, .int p0), (2, .int p1)]) (B := []) (ini := false) RX0 rfl (by decide +kernel) (fun h => by cases h) (by simp [lg_sl, Value.category]) (by simp [lv_args, Value.category]) rfl (by simp [lv_args, Value.category]) fun u => ?_
  unfold f_X0_has
  refine go_aload_n (pc := 0) (j := 0) (i := 0) dX0_has_0 rfl rfl ?_
  refine go_iload_n (pc := 1) (j := 1) (i := 1) dX0_has_1 rfl rfl ?_
  refine go_callVR (pc := 2) (ci := 0) (ct_X0_findHouse self p0 t_self) lk_X0_157 rfl rfl rfl (by decide) t_self ⟨by decide, by decide⟩ (Nat.le_of_ble_eq_true rfl) dX0_has_2 rfl fun v1 u1 t_v1 => ?_
  refine go_astore_nQ (pc := 5) (j := 3) (r := v1) (i := 3) (A' := [(0, .ref self), (1, .int p0), (2, .int p1), (3, va_rf v1)]) rfl (by decide) rfl rfl rfl dX0_has_5 ?_
  refine go_aload_nQ (pc := 6) (j := 3) (r := v1) (i := 3) dX0_has_6 rfl rfl ?_
  refine go_ifnonnull (pc := 7) (tgt := 13) dX0_has_7 (by decide) (fun e_n1 => ?_) (fun n1 e_n1 => ?_)
  · subst e_n1
    refine go_ldc (pc := 10) (v := (-2147483648)) dX0_has_10 q541 ?_
    exact go_ireturn (pc := 12) rfl dX0_has_12
  · have t_n1 := t_v1 n1 e_n1
    subst e_n1
    refine go_iload_n (pc := 13) (j := 2) (i := 2) dX0_has_13 rfl rfl ?_
    refine go_if (fun h1 => ?_) (fun h1 => ?_)
    · refine go_tableIn (pc := 14) (tgt := 72) 0 h1 dX0_has_14 (by decide) (by decide) rfl (by decide) ?_
      refine go_aload_n (pc := 72) (j := 3) (i := 3) dX0_has_72 rfl rfl ?_
      refine go_getR (pc := 73) (n := n1) (ci := 5) (k := 3) (t := 4) fa_X0_240_5 t_n1 rfl dX0_has_73 fun r1 t_r1 => ?_
      refine go_oB fun n2 e_n2 => ?_
      have t_n2 := t_r1 n2 e_n2
      subst e_n2
      refine go_getI (pc := 76) (n := n2) (ci := 4) (k := 0) fa_X0_144_4 t_n2 rfl dX0_has_76 ?_
      exact go_ireturn (pc := 79) rfl dX0_has_79
    refine go_if (fun h2 => ?_) (fun h2 => ?_)
    · refine go_tableIn (pc := 14) (tgt := 80) 1 h2 dX0_has_14 (by decide) (by decide) rfl (by decide) ?_
      refine go_aload_n (pc := 80) (j := 3) (i := 3) dX0_has_80 rfl rfl ?_
      refine go_getI (pc := 81) (n := n1) (ci := 5) (k := 4) fa_X0_202_5 t_n1 rfl dX0_has_81 ?_
      exact go_ireturn (pc := 84) rfl dX0_has_84
    refine go_if (fun h3 => ?_) (fun h3 => ?_)
    · refine go_tableIn (pc := 14) (tgt := 85) 2 h3 dX0_has_14 (by decide) (by decide) rfl (by decide) ?_
      refine go_aload_n (pc := 85) (j := 3) (i := 3) dX0_has_85 rfl rfl ?_
      refine go_getI (pc := 86) (n := n1) (ci := 5) (k := 5) fa_X0_237_5 t_n1 rfl dX0_has_86 ?_
      exact go_ireturn (pc := 89) rfl dX0_has_89
    refine go_if (fun h4 => ?_) (fun h4 => ?_)
    · refine go_tableIn (pc := 14) (tgt := 90) 3 h4 dX0_has_14 (by decide) (by decide) rfl (by decide) ?_
      refine go_aload_n (pc := 90) (j := 3) (i := 3) dX0_has_90 rfl rfl ?_
      refine go_getI (pc := 91) (n := n1) (ci := 5) (k := 1) fa_X0_377_5 t_n1 rfl dX0_has_91 ?_
      exact go_ireturn (pc := 94) rfl dX0_has_94
    refine go_if (fun h5 => ?_) (fun h5 => ?_)
    · refine go_tableIn (pc := 14) (tgt := 95) 4 h5 dX0_has_14 (by decide) (by decide) rfl (by decide) ?_
      refine go_aload_n (pc := 95) (j := 3) (i := 3) dX0_has_95 rfl rfl ?_
      refine go_getI (pc := 96) (n := n1) (ci := 5) (k := 2) fa_X0_374_5 t_n1 rfl dX0_has_96 ?_
      exact go_ireturn (pc := 99) rfl dX0_has_99
    refine go_if (fun h6 => ?_) (fun h6 => ?_)
    · refine go_tableIn (pc := 14) (tgt := 100) 5 h6 dX0_has_14 (by decide) (by decide) rfl (by decide) ?_
      refine go_aload_n (pc := 100) (j := 3) (i := 3) dX0_has_100 rfl rfl ?_
      refine go_getI (pc := 101) (n := n1) (ci := 5) (k := 6) fa_X0_177_5 t_n1 rfl dX0_has_101 ?_
      exact go_ireturn (pc := 104) rfl dX0_has_104
    refine go_if (fun h7 => ?_) (fun h7 => ?_)
    · refine go_tableIn (pc := 14) (tgt := 105) 6 h7 dX0_has_14 (by decide) (by decide) rfl (by decide) ?_
      refine go_aload_n (pc := 105) (j := 3) (i := 3) dX0_has_105 rfl rfl ?_
      refine go_getI (pc := 106) (n := n1) (ci := 5) (k := 7) fa_X0_173_5 t_n1 rfl dX0_has_106 ?_
      exact go_ireturn (pc := 109) rfl dX0_has_109
    refine go_if (fun h8 => ?_) (fun h8 => ?_)
    · refine go_tableIn (pc := 14) (tgt := 110) 7 h8 dX0_has_14 (by decide) (by decide) rfl (by decide) ?_
      refine go_aload_n (pc := 110) (j := 3) (i := 3) dX0_has_110 rfl rfl ?_
      refine go_getI (pc := 111) (n := n1) (ci := 5) (k := 8) fa_X0_287_5 t_n1 rfl dX0_has_111 ?_
      exact go_ireturn (pc := 114) rfl dX0_has_114
    refine go_if (fun h9 => ?_) (fun h9 => ?_)
    · refine go_tableIn (pc := 14) (tgt := 115) 8 h9 dX0_has_14 (by decide) (by decide) rfl (by decide) ?_
      refine go_aload_n (pc := 115) (j := 3) (i := 3) dX0_has_115 rfl rfl ?_
      refine go_getI (pc := 116) (n := n1) (ci := 5) (k := 9) fa_X0_290_5 t_n1 rfl dX0_has_116 ?_
      exact go_ireturn (pc := 119) rfl dX0_has_119
    refine go_if (fun h10 => ?_) (fun h10 => ?_)
    · refine go_tableIn (pc := 14) (tgt := 120) 9 h10 dX0_has_14 (by decide) (by decide) rfl (by decide) ?_
      refine go_aload_n (pc := 120) (j := 3) (i := 3) dX0_has_120 rfl rfl ?_
      refine go_getI (pc := 121) (n := n1) (ci := 5) (k := 10) fa_X0_299_5 t_n1 rfl dX0_has_121 ?_
      exact go_ireturn (pc := 124) rfl dX0_has_124
    refine go_if (fun h11 => ?_) (fun h11 => ?_)
    · refine go_tableIn (pc := 14) (tgt := 125) 10 h11 dX0_has_14 (by decide) (by decide) rfl (by decide) ?_
      refine go_aload_n (pc := 125) (j := 3) (i := 3) dX0_has_125 rfl rfl ?_
      refine go_getR (pc := 126) (n := n1) (ci := 5) (k := 15) (t := 6) fa_X0_161_5 t_n1 rfl dX0_has_126 fun r2 t_r2 => ?_
      refine go_ifnonnull (pc := 129) (tgt := 136) dX0_has_129 (by decide) (fun e_n3 => ?_) (fun n3 e_n3 => ?_)
      · subst e_n3
        refine go_iconst (pc := 132) (v := (-1)) dX0_has_132 (by decide) ?_
        refine go_goto (pc := 133) (tgt := 143) dX0_has_133 (by decide) ?_
        exact go_ireturn (pc := 143) rfl dX0_has_143
      · have t_n3 := t_r2 n3 e_n3
        subst e_n3
        refine go_aload_n (pc := 136) (j := 3) (i := 3) dX0_has_136 rfl rfl ?_
        refine go_getR (pc := 137) (n := n1) (ci := 5) (k := 15) (t := 6) fa_X0_161_5 t_n1 rfl dX0_has_137 fun r3 t_r3 => ?_
        refine go_oB fun n4 e_n4 => ?_
        have t_n4 := t_r3 n4 e_n4
        subst e_n4
        refine go_getI (pc := 140) (n := n4) (ci := 6) (k := 3) fa_X0_227_6 t_n4 rfl dX0_has_140 ?_
        exact go_ireturn (pc := 143) rfl dX0_has_143
    refine go_tableD (pc := 14) (x := p1) (tgt := 144) dX0_has_14 (by decide) (fun a b => ?_) ?_
    · rcases (show Int32.toInt p1 = 0 ∨ Int32.toInt p1 = 1 ∨ Int32.toInt p1 = 2 ∨ Int32.toInt p1 = 3 ∨ Int32.toInt p1 = 4 ∨ Int32.toInt p1 = 5 ∨ Int32.toInt p1 = 6 ∨ Int32.toInt p1 = 7 ∨ Int32.toInt p1 = 8 ∨ Int32.toInt p1 = 9 ∨ Int32.toInt p1 = 10 by omega) with e | e | e | e | e | e | e | e | e | e | e
      · exact absurd (sw_eq (v := 0) (e.trans (by decide))) h1
      · exact absurd (sw_eq (v := 1) (e.trans (by decide))) h2
      · exact absurd (sw_eq (v := 2) (e.trans (by decide))) h3
      · exact absurd (sw_eq (v := 3) (e.trans (by decide))) h4
      · exact absurd (sw_eq (v := 4) (e.trans (by decide))) h5
      · exact absurd (sw_eq (v := 5) (e.trans (by decide))) h6
      · exact absurd (sw_eq (v := 6) (e.trans (by decide))) h7
      · exact absurd (sw_eq (v := 7) (e.trans (by decide))) h8
      · exact absurd (sw_eq (v := 8) (e.trans (by decide))) h9
      · exact absurd (sw_eq (v := 9) (e.trans (by decide))) h10
      · exact absurd (sw_eq (v := 10) (e.trans (by decide))) h11
    · refine go_ldc (pc := 144) (v := (-2147483648)) dX0_has_144 q541 ?_
      exact go_ireturn (pc := 146) rfl dX0_has_146

def f_X0_count (self : Nat) (p0 : Int32) (u : zM) : Option (Int32 × zM) := if p0 = 0 then (some ((mI u self 14), u)) else (if p0 = 1 then (some ((mI u self 15), u)) else (if p0 = 2 then (some ((mI u self 16), u)) else (if p0 = 3 then (some ((mI u self 17), u)) else (if p0 = 4 then (some ((mI u self 19), u)) else (if p0 = 5 then (some ((mI u self 18), u)) else (if p0 = 6 then (some ((mI u self 21), u)) else (if p0 = 7 then (lt (mR u self 27) fun r1 => oB r1 fun n1 => some ((mI u n1 5), u)) else (if p0 = 8 then (some ((mI u self 34), u)) else (if p0 = 9 then (some ((mI u self 22), u)) else (some ((-1), u)))))))))))
set_option maxHeartbeats 4000000 in
theorem ct_X0_count (self : Nat) (p0 : Int32) (t_self : kd self = 0) : zMet yX0_count cX0_count 2 (some .int) 1 0 rvI (obT) [.ref self, .int p0] (f_X0_count self p0) := by
  refine zMet_of (A := [(0, .ref self), (1, .int p0)]) (B := []) (ini := false) RX0 rfl (by decide +kernel) (fun h => by cases h) (by simp [lg_sl, Value.category]) (by simp [lv_args, Value.category]) rfl (by simp [lv_args, Value.category]) fun u => ?_
  unfold f_X0_count
  refine go_iload_n (pc := 0) (j := 1) (i := 1) dX0_count_0 rfl rfl ?_
  refine go_if (fun h1 => ?_) (fun h1 => ?_)
  · refine go_tableIn (pc := 1) (tgt := 56) 0 h1 dX0_count_1 (by decide) (by decide) rfl (by decide) ?_
    refine go_aload_n (pc := 56) (j := 0) (i := 0) dX0_count_56 rfl rfl ?_
    refine go_getI (pc := 57) (n := self) (ci := 0) (k := 14) fa_X0_151_0 t_self rfl dX0_count_57 ?_
    exact go_ireturn (pc := 60) rfl dX0_count_60
  refine go_if (fun h2 => ?_) (fun h2 => ?_)
  · refine go_tableIn (pc := 1) (tgt := 61) 1 h2 dX0_count_1 (by decide) (by decide) rfl (by decide) ?_
    refine go_aload_n (pc := 61) (j := 0) (i := 0) dX0_count_61 rfl rfl ?_
    refine go_getI (pc := 62) (n := self) (ci := 0) (k := 15) fa_X0_112_0 t_self rfl dX0_count_62 ?_
    exact go_ireturn (pc := 65) rfl dX0_count_65
  refine go_if (fun h3 => ?_) (fun h3 => ?_)
  · refine go_tableIn (pc := 1) (tgt := 66) 2 h3 dX0_count_1 (by decide) (by decide) rfl (by decide) ?_
    refine go_aload_n (pc := 66) (j := 0) (i := 0) dX0_count_66 rfl rfl ?_
    refine go_getI (pc := 67) (n := self) (ci := 0) (k := 16) fa_X0_120_0 t_self rfl dX0_count_67 ?_
    exact go_ireturn (pc := 70) rfl dX0_count_70
  refine go_if (fun h4 => ?_) (fun h4 => ?_)
  · refine go_tableIn (pc := 1) (tgt := 71) 3 h4 dX0_count_1 (by decide) (by decide) rfl (by decide) ?_
    refine go_aload_n (pc := 71) (j := 0) (i := 0) dX0_count_71 rfl rfl ?_
    refine go_getI (pc := 72) (n := self) (ci := 0) (k := 17) fa_X0_123_0 t_self rfl dX0_count_72 ?_
    exact go_ireturn (pc := 75) rfl dX0_count_75
  refine go_if (fun h5 => ?_) (fun h5 => ?_)
  · refine go_tableIn (pc := 1) (tgt := 76) 4 h5 dX0_count_1 (by decide) (by decide) rfl (by decide) ?_
    refine go_aload_n (pc := 76) (j := 0) (i := 0) dX0_count_76 rfl rfl ?_
    refine go_getI (pc := 77) (n := self) (ci := 0) (k := 19) fa_X0_353_0 t_self rfl dX0_count_77 ?_
    exact go_ireturn (pc := 80) rfl dX0_count_80
  refine go_if (fun h6 => ?_) (fun h6 => ?_)
  · refine go_tableIn (pc := 1) (tgt := 81) 5 h6 dX0_count_1 (by decide) (by decide) rfl (by decide) ?_
    refine go_aload_n (pc := 81) (j := 0) (i := 0) dX0_count_81 rfl rfl ?_
    refine go_getI (pc := 82) (n := self) (ci := 0) (k := 18) fa_X0_126_0 t_self rfl dX0_count_82 ?_
    exact go_ireturn (pc := 85) rfl dX0_count_85
  refine go_if (fun h7 => ?_) (fun h7 => ?_)
  · refine go_tableIn (pc := 1) (tgt := 86) 6 h7 dX0_count_1 (by decide) (by decide) rfl (by decide) ?_
    refine go_aload_n (pc := 86) (j := 0) (i := 0) dX0_count_86 rfl rfl ?_
    refine go_getI (pc := 87) (n := self) (ci := 0) (k := 21) fa_X0_338_0 t_self rfl dX0_count_87 ?_
    exact go_ireturn (pc := 90) rfl dX0_count_90
  refine go_if (fun h8 => ?_) (fun h8 => ?_)
  · refine go_tableIn (pc := 1) (tgt := 91) 7 h8 dX0_count_1 (by decide) (by decide) rfl (by decide) ?_
    refine go_aload_n (pc := 91) (j := 0) (i := 0) dX0_count_91 rfl rfl ?_
    refine go_getR (pc := 92) (n := self) (ci := 0) (k := 27) (t := 2) fa_X0_90_0 t_self rfl dX0_count_92 fun r1 t_r1 => ?_
    refine go_oB fun n1 e_n1 => ?_
    have t_n1 := t_r1 n1 e_n1
    subst e_n1
    refine go_getI (pc := 95) (n := n1) (ci := 2) (k := 5) fa_X0_445_2 t_n1 rfl dX0_count_95 ?_
    exact go_ireturn (pc := 98) rfl dX0_count_98
  refine go_if (fun h9 => ?_) (fun h9 => ?_)
  · refine go_tableIn (pc := 1) (tgt := 99) 8 h9 dX0_count_1 (by decide) (by decide) rfl (by decide) ?_
    refine go_aload_n (pc := 99) (j := 0) (i := 0) dX0_count_99 rfl rfl ?_
    refine go_getI (pc := 100) (n := self) (ci := 0) (k := 34) fa_X0_487_0 t_self rfl dX0_count_100 ?_
    exact go_ireturn (pc := 103) rfl dX0_count_103
  refine go_if (fun h10 => ?_) (fun h10 => ?_)
  · refine go_tableIn (pc := 1) (tgt := 104) 9 h10 dX0_count_1 (by decide) (by decide) rfl (by decide) ?_
    refine go_aload_n (pc := 104) (j := 0) (i := 0) dX0_count_104 rfl rfl ?_
    refine go_getI (pc := 105) (n := self) (ci := 0) (k := 22) fa_X0_296_0 t_self rfl dX0_count_105 ?_
    exact go_ireturn (pc := 108) rfl dX0_count_108
  refine go_tableD (pc := 1) (x := p0) (tgt := 109) dX0_count_1 (by decide) (fun a b => ?_) ?_
  · rcases (show Int32.toInt p0 = 0 ∨ Int32.toInt p0 = 1 ∨ Int32.toInt p0 = 2 ∨ Int32.toInt p0 = 3 ∨ Int32.toInt p0 = 4 ∨ Int32.toInt p0 = 5 ∨ Int32.toInt p0 = 6 ∨ Int32.toInt p0 = 7 ∨ Int32.toInt p0 = 8 ∨ Int32.toInt p0 = 9 by omega) with e | e | e | e | e | e | e | e | e | e
    · exact absurd (sw_eq (v := 0) (e.trans (by decide))) h1
    · exact absurd (sw_eq (v := 1) (e.trans (by decide))) h2
    · exact absurd (sw_eq (v := 2) (e.trans (by decide))) h3
    · exact absurd (sw_eq (v := 3) (e.trans (by decide))) h4
    · exact absurd (sw_eq (v := 4) (e.trans (by decide))) h5
    · exact absurd (sw_eq (v := 5) (e.trans (by decide))) h6
    · exact absurd (sw_eq (v := 6) (e.trans (by decide))) h7
    · exact absurd (sw_eq (v := 7) (e.trans (by decide))) h8
    · exact absurd (sw_eq (v := 8) (e.trans (by decide))) h9
    · exact absurd (sw_eq (v := 9) (e.trans (by decide))) h10
  · refine go_iconst (pc := 109) (v := (-1)) dX0_count_109 (by decide) ?_
    exact go_ireturn (pc := 110) rfl dX0_count_110

def f_X3_init (self : Nat) (u : zM) : Option (Unit × zM) := lt2 (gMk 23 (Int32.toNatClampNeg 8) (g1 653 (Int32.toNatClampNeg 4)) u) fun n1 u1 => lt (sR u1 self 3 (some n1)) fun u2 => lt2 (gMk 55 (Int32.toNatClampNeg 8) (g1 685 (Int32.toNatClampNeg 8)) u2) fun n2 u3 => lt (sR u3 self 4 (some n2)) fun u4 => lt2 (gMk 87 (Int32.toNatClampNeg 8) (g1 717 (Int32.toNatClampNeg 157)) u4) fun n3 u5 => lt (sR u5 self 5 (some n3)) fun u6 => gs 8 (lt (nx u6 749) fun n4 => lt (mkc u6 749 (xN 8) (xN 8)) fun u7 => lt (sR u7 self 6 (some n4)) fun u8 => gs 8 (lt (nx u8 781) fun n5 => lt (mkc u8 781 (xN 8) (xN 8)) fun u9 => lt (sR u9 self 7 (some n5)) fun u10 => gs 8 (lt (nx u10 813) fun n6 => lt (mkc u10 813 (xN 8) (xN 8)) fun u11 => lt (sR u11 self 8 (some n6)) fun u12 => gs 8 (lt (nx u12 845) fun n7 => lt (mkc u12 845 (xN 8) (xN 8)) fun u13 => lt (sR u13 self 9 (some n7)) fun u14 => gs 8 (lt (nx u14 877) fun n8 => lt (mkc u14 877 (xN 8) (xN 8)) fun u15 => lt (sR u15 self 10 (some n8)) fun u16 => gs 8 (lt (nx u16 909) fun n9 => lt (mkc u16 909 (xN 8) (xN 8)) fun u17 => lt (sR u17 self 11 (some n9)) fun u18 => gs 8 (lt (nx u18 941) fun n10 => lt (mkc u18 941 (xN 8) (xN 8)) fun u19 => lt (sR u19 self 12 (some n10)) fun u20 => gs 8 (lt (nx u20 973) fun n11 => lt (mkc u20 973 (xN 8) (xN 8)) fun u21 => lt (sR u21 self 13 (some n11)) fun u22 => gs 8 (lt (nx u22 1005) fun n12 => lt (mkc u22 1005 (xN 8) (xN 8)) fun u23 => lt (sR u23 self 14 (some n12)) fun u24 => gs 8 (lt (nx u24 1037) fun n13 => lt (mkc u24 1037 (xN 8) (xN 8)) fun u25 => lt (sR u25 self 15 (some n13)) fun u26 => gs 8 (lt (nx u26 1069) fun n14 => lt (mkc u26 1069 (xN 8) (xN 8)) fun u27 => lt (sR u27 self 16 (some n14)) fun u28 => gs 8 (lt (nx u28 1101) fun n15 => lt (mkc u28 1101 (xN 8) (xN 8)) fun u29 => lt (sR u29 self 17 (some n15)) fun u30 => gs 8 (lt (nx u30 1133) fun n16 => lt (mkc u30 1133 (xN 8) (xN 8)) fun u31 => lt (sR u31 self 18 (some n16)) fun u32 => gs 8 (lt (nx u32 1165) fun n17 => lt (mkc u32 1165 (xN 8) (xN 8)) fun u33 => lt (sR u33 self 19 (some n17)) fun u34 => gs 20 (lt (nx u34 1197) fun n18 => lt (mkc u34 1197 (xN 20) (xN 20)) fun u35 => lt (sR u35 self 20 (some n18)) fun u36 => gs 20 (lt (nx u36 1229) fun n19 => lt (mkc u36 1229 (xN 20) (xN 20)) fun u37 => lt (sR u37 self 21 (some n19)) fun u38 => gs 20 (lt (nx u38 1261) fun n20 => lt (mkc u38 1261 (xN 20) (xN 20)) fun u39 => lt (sR u39 self 22 (some n20)) fun u40 => gs 20 (lt (nx u40 1293) fun n21 => lt (mkc u40 1293 (xN 20) (xN 20)) fun u41 => lt (sR u41 self 23 (some n21)) fun u42 => gs 20 (lt (nx u42 1325) fun n22 => lt (mkc u42 1325 (xN 20) (xN 20)) fun u43 => lt (sR u43 self 24 (some n22)) fun u44 => gs 20 (lt (nx u44 1357) fun n23 => lt (mkc u44 1357 (xN 20) (xN 20)) fun u45 => lt (sR u45 self 25 (some n23)) fun u46 => gs 20 (lt (nx u46 1389) fun n24 => lt (mkc u46 1389 (xN 20) (xN 20)) fun u47 => lt (sR u47 self 26 (some n24)) fun u48 => gs 20 (lt (nx u48 1421) fun n25 => lt (mkc u48 1421 (xN 20) (xN 20)) fun u49 => lt (sR u49 self 27 (some n25)) fun u50 => gs 20 (lt (nx u50 1453) fun n26 => lt (mkc u50 1453 (xN 20) (xN 20)) fun u51 => lt (sR u51 self 28 (some n26)) fun u52 => gs 20 (lt (nx u52 1485) fun n27 => lt (mkc u52 1485 (xN 20) (xN 20)) fun u53 => lt (sR u53 self 29 (some n27)) fun u54 => gs 20 (lt (nx u54 1517) fun n28 => lt (mkc u54 1517 (xN 20) (xN 20)) fun u55 => lt (sR u55 self 30 (some n28)) fun u56 => gs 20 (lt (nx u56 1549) fun n29 => lt (mkc u56 1549 (xN 20) (xN 20)) fun u57 => lt (sR u57 self 31 (some n29)) fun u58 => gs 20 (lt (nx u58 1581) fun n30 => lt (mkc u58 1581 (xN 20) (xN 20)) fun u59 => lt (sR u59 self 32 (some n30)) fun u60 => gs 20 (lt (nx u60 1613) fun n31 => lt (mkc u60 1613 (xN 20) (xN 20)) fun u61 => lt (sR u61 self 33 (some n31)) fun u62 => gs 20 (lt (nx u62 16) fun n32 => lt (mkc u62 16 (xN 20) (xN 20)) fun u63 => lt (sR u63 self 34 (some n32)) fun u64 => gs 20 (lt (nx u64 1645) fun n33 => lt (mkc u64 1645 (xN 20) (xN 20)) fun u65 => lt (sR u65 self 35 (some n33)) fun u66 => gs 20 (lt (nx u66 1677) fun n34 => lt (mkc u66 1677 (xN 20) (xN 20)) fun u67 => lt (sR u67 self 36 (some n34)) fun u68 => gs 20 (lt (nx u68 1709) fun n35 => lt (mkc u68 1709 (xN 20) (xN 20)) fun u69 => lt (sR u69 self 37 (some n35)) fun u70 => gs 8 (lt (nx u70 1741) fun n36 => lt (mkc u70 1741 (xN 8) (xN 8)) fun u71 => lt (sR u71 self 39 (some n36)) fun u72 => gs 400 (lt (nx u72 110) fun n37 => lt (mkc u72 110 (xN 400) (xN 400)) fun u73 => lt (sR u73 self 40 (some n37)) fun u74 => lt2 (gMk 24 (Int32.toNatClampNeg 9) (gMk 119 (Int32.toNatClampNeg 5) (g1 1773 (Int32.toNatClampNeg 840))) u74) fun n38 u75 => lt (sR u75 self 48 (some n38)) fun u76 => lt2 (gMk 151 (Int32.toNatClampNeg 9) (g1 1805 (Int32.toNatClampNeg 5)) u76) fun n39 u77 => lt (sR u77 self 49 (some n39)) fun u78 => gs 12 (lt (nx u78 1837) fun n40 => lt (mkc u78 1837 (xN 12) (xN 12)) fun u79 => lt (sR u79 self 50 (some n40)) fun u80 => gs 12 (lt (nx u80 1869) fun n41 => lt (mkc u80 1869 (xN 12) (xN 12)) fun u81 => lt (sR u81 self 51 (some n41)) fun u82 => gs 5 (lt (nx u82 26) fun n42 => lt (mkc u82 26 (xN 5) (xN 5)) fun u83 => ix 0 (mN u83 n42) (lt (sR u83 n42 (xN 0) (some (nm 27 6))) fun u84 => ix 1 (mN u84 n42) (lt (sR u84 n42 (xN 1) (some (nm 27 7))) fun u85 => ix 2 (mN u85 n42) (lt (sR u85 n42 (xN 2) (some (nm 27 8))) fun u86 => ix 3 (mN u86 n42) (lt (sR u86 n42 (xN 3) (some (nm 27 9))) fun u87 => ix 4 (mN u87 n42) (lt (sR u87 n42 (xN 4) (some (nm 27 10))) fun u88 => lt (sR u88 self 54 (some n42)) fun u89 => gs 13 (lt (nx u89 58) fun n43 => lt (mkc u89 58 (xN 13) (xN 13)) fun u90 => ix 0 (mN u90 n43) (lt (sR u90 n43 (xN 0) (some (nm 27 11))) fun u91 => ix 1 (mN u91 n43) (lt (sR u91 n43 (xN 1) (some (nm 27 12))) fun u92 => ix 2 (mN u92 n43) (lt (sR u92 n43 (xN 2) (some (nm 27 13))) fun u93 => ix 3 (mN u93 n43) (lt (sR u93 n43 (xN 3) (some (nm 27 14))) fun u94 => ix 4 (mN u94 n43) (lt (sR u94 n43 (xN 4) (some (nm 27 15))) fun u95 => ix 5 (mN u95 n43) (lt (sR u95 n43 (xN 5) (some (nm 27 16))) fun u96 => ix 6 (mN u96 n43) (lt (sR u96 n43 (xN 6) (some (nm 27 17))) fun u97 => ix 7 (mN u97 n43) (lt (sR u97 n43 (xN 7) (some (nm 27 18))) fun u98 => ix 8 (mN u98 n43) (lt (sR u98 n43 (xN 8) (some (nm 27 19))) fun u99 => ix 9 (mN u99 n43) (lt (sR u99 n43 (xN 9) (some (nm 27 20))) fun u100 => ix 10 (mN u100 n43) (lt (sR u100 n43 (xN 10) (some (nm 27 21))) fun u101 => ix 11 (mN u101 n43) (lt (sR u101 n43 (xN 11) (some (nm 27 22))) fun u102 => ix 12 (mN u102 n43) (lt (sR u102 n43 (xN 12) (some (nm 27 23))) fun u103 => lt (sR u103 self 55 (some n43)) fun u104 => gs 13 (lt (nx u104 1901) fun n44 => lt (mkc u104 1901 (xN 13) (xN 13)) fun u105 => lt (sR u105 self 56 (some n44)) fun u106 => gs 420 (lt (nx u106 1933) fun n45 => lt (mkc u106 1933 (xN 420) (xN 420)) fun u107 => lt (sR u107 self 57 (some n45)) fun u108 => gs 300 (lt (nx u108 1965) fun n46 => lt (mkc u108 1965 (xN 300) (xN 300)) fun u109 => lt (sR u109 self 58 (some n46)) fun u110 => gs 300 (lt (nx u110 1997) fun n47 => lt (mkc u110 1997 (xN 300) (xN 300)) fun u111 => lt (sR u111 self 59 (some n47)) fun u112 => gs 300 (lt (nx u112 2029) fun n48 => lt (mkc u112 2029 (xN 300) (xN 300)) fun u113 => lt (sR u113 self 60 (some n48)) fun u114 => gs 300 (lt (nx u114 2061) fun n49 => lt (mkc u114 2061 (xN 300) (xN 300)) fun u115 => lt (sR u115 self 61 (some n49)) fun u116 => gs 300 (lt (nx u116 2093) fun n50 => lt (mkc u116 2093 (xN 300) (xN 300)) fun u117 => lt (sR u117 self 62 (some n50)) fun u118 => gs 300 (lt (nx u118 2125) fun n51 => lt (mkc u118 2125 (xN 300) (xN 300)) fun u119 => lt (sR u119 self 63 (some n51)) fun u120 => gs 20 (lt (nx u120 2157) fun n52 => lt (mkc u120 2157 (xN 20) (xN 20)) fun u121 => lt (sR u121 self 65 (some n52)) fun u122 => gs 8 (lt (nx u122 2189) fun n53 => lt (mkc u122 2189 (xN 8) (xN 8)) fun u123 => lt (sR u123 self 66 (some n53)) fun u124 => gs 20 (lt (nx u124 2221) fun n54 => lt (mkc u124 2221 (xN 20) (xN 20)) fun u125 => lt (sR u125 self 67 (some n54)) fun u126 => gs 20 (lt (nx u126 2253) fun n55 => lt (mkc u126 2253 (xN 20) (xN 20)) fun u127 => lt (sR u127 self 68 (some n55)) fun u128 => gs 200 (lt (nx u128 2285) fun n56 => lt (mkc u128 2285 (xN 200) (xN 200)) fun u129 => lt (sR u129 self 72 (some n56)) fun u130 => gs 200 (lt (nx u130 2317) fun n57 => lt (mkc u130 2317 (xN 200) (xN 200)) fun u131 => lt (sR u131 self 73 (some n57)) fun u132 => gs 200 (lt (nx u132 2349) fun n58 => lt (mkc u132 2349 (xN 200) (xN 200)) fun u133 => lt (sR u133 self 74 (some n58)) fun u134 => gs 200 (lt (nx u134 2381) fun n59 => lt (mkc u134 2381 (xN 200) (xN 200)) fun u135 => lt (sR u135 self 75 (some n59)) fun u136 => gs 200 (lt (nx u136 2413) fun n60 => lt (mkc u136 2413 (xN 200) (xN 200)) fun u137 => lt (sR u137 self 76 (some n60)) fun u138 => gs 200 (lt (nx u138 15) fun n61 => lt (mkc u138 15 (xN 200) (xN 200)) fun u139 => lt (sR u139 self 77 (some n61)) fun u140 => gs 6 (lt (nx u140 2445) fun n62 => lt (mkc u140 2445 (xN 6) (xN 6)) fun u141 => lt (sR u141 self 79 (some n62)) fun u142 => gs 6 (lt (nx u142 2477) fun n63 => lt (mkc u142 2477 (xN 6) (xN 6)) fun u143 => lt (sR u143 self 80 (some n63)) fun u144 => gs 6 (lt (nx u144 2509) fun n64 => lt (mkc u144 2509 (xN 6) (xN 6)) fun u145 => lt (sR u145 self 81 (some n64)) fun u146 => gs 6 (lt (nx u146 2541) fun n65 => lt (mkc u146 2541 (xN 6) (xN 6)) fun u147 => lt (sR u147 self 82 (some n65)) fun u148 => gs 6 (lt (nx u148 2573) fun n66 => lt (mkc u148 2573 (xN 6) (xN 6)) fun u149 => lt (sR u149 self 83 (some n66)) fun u150 => lt2 (gMk 25 (Int32.toNatClampNeg 6) (g1 47 (Int32.toNatClampNeg 6)) u150) fun n67 u151 => lt (sR u151 self 84 (some n67)) fun u152 => lt2 (gMk 183 (Int32.toNatClampNeg 6) (g1 2605 (Int32.toNatClampNeg 6)) u152) fun n68 u153 => lt (sR u153 self 85 (some n68)) fun u154 => lt2 (gMk 215 (Int32.toNatClampNeg 156) (g1 2637 (Int32.toNatClampNeg 6)) u154) fun n69 u155 => lt (sR u155 self 91 (some n69)) fun u156 => gs 8 (lt (nx u156 2669) fun n70 => lt (mkc u156 2669 (xN 8) (xN 8)) fun u157 => lt (sR u157 self 92 (some n70)) fun u158 => gs 8 (lt (nx u158 2701) fun n71 => lt (mkc u158 2701 (xN 8) (xN 8)) fun u159 => lt (sR u159 self 93 (some n71)) fun u160 => gs 8 (lt (nx u160 2733) fun n72 => lt (mkc u160 2733 (xN 8) (xN 8)) fun u161 => lt (sR u161 self 94 (some n72)) fun u162 => gs 8 (lt (nx u162 2765) fun n73 => lt (mkc u162 2765 (xN 8) (xN 8)) fun u163 => lt (sR u163 self 95 (some n73)) fun u164 => some ((), u164))))))))))))))))))))))))))))))))))))))))))))))))))))))))))))))))))))))))))))))))))))
set_option maxHeartbeats 4000000 in
theorem ct_X3_init (self : Nat) (t_self : kd self = 3) : zMet yX3_init cX3_init 1 (none) 1 20 rvV (obT) [.ref self] (f_X3_init self) := by
  refine zMet_of (A := [(0, .ref self)]) (B := []) (ini := true) RX3 rfl (by decide +kernel) (fun _ => rfl) (by simp [lg_sl, Value.category]) (by simp [lv_args, Value.category]) rfl (by simp [lv_args, Value.category]) fun u => ?_
  unfold f_X3_init
  refine go_aload_n (pc := 0) (j := 0) (i := 0) dX3_init_0 rfl rfl ?_
  refine go_objInit (pc := 1) q1220 q124 q125 (by decide) (by decide) dX3_init_1 ?_
  refine go_aload_n (pc := 4) (j := 0) (i := 0) dX3_init_4 rfl rfl ?_
  refine go_bipush (pc := 5) (v := 8) dX3_init_5 (by decide) ?_
  refine go_iconst (pc := 7) (v := 4) dX3_init_7 (by decide) ?_
  refine go_manew2 (pc := 8) (k := 23) (ty := .array .int) (by rw [sII]; exact q1221) (gOk_m (σ := 23) (n := (Int32.toNatClampNeg 8)) (by decide) (by decide) (fT23 rfl) (gOk_1 (n := Int32.toNatClampNeg 4) (by decide) (by decide))) (gRun_m (σ := 23) (k := 13) (ci := 23) (y := 8) (ty := .int) (by decide) (by decide) (by decide) (by decide) (fT23 rfl) (by decide) (by decide) rfl (List.mem_of_getElem? (i := 0) rfl) (gOk_1 (n := Int32.toNatClampNeg 4) (by decide) (by decide)) (gI1 (y := 4) (by decide) (by decide) (by decide) (by decide)) (by decide) (by decide +kernel) (by decide)) dX3_init_8 fun n1 u1 t_n1 => ?_
  refine go_putR (pc := 12) (n := self) (ci := 3) (k := 3) (t := 23) (r := some n1) pa_X3_11_3 (fun _ => rfl) t_self rfl (Or.inr ⟨_, rfl⟩) (fun n h => by cases h; exact t_n1) dX3_init_12 fun u2 => ?_
  refine go_aload_n (pc := 15) (j := 0) (i := 0) dX3_init_15 rfl rfl ?_
  refine go_bipush (pc := 16) (v := 8) dX3_init_16 (by decide) ?_
  refine go_bipush (pc := 18) (v := 8) dX3_init_18 (by decide) ?_
  refine go_manew2 (pc := 20) (k := 23) (ty := .array .int) (by rw [sII]; exact q1221) (gOk_m (σ := 55) (n := (Int32.toNatClampNeg 8)) (by decide) (by decide) (fT23 rfl) (gOk_1 (n := Int32.toNatClampNeg 8) (by decide) (by decide))) (gRun_m (σ := 55) (k := 13) (ci := 23) (y := 8) (ty := .int) (by decide) (by decide) (by decide) (by decide) (fT23 rfl) (by decide) (by decide) rfl (List.mem_of_getElem? (i := 0) rfl) (gOk_1 (n := Int32.toNatClampNeg 8) (by decide) (by decide)) (gI1 (y := 8) (by decide) (by decide) (by decide) (by decide)) (by decide) (by decide +kernel) (by decide)) dX3_init_20 fun n2 u3 t_n2 => ?_
  refine go_putR (pc := 24) (n := self) (ci := 3) (k := 4) (t := 23) (r := some n2) pa_X3_14_3 (fun _ => rfl) t_self rfl (Or.inr ⟨_, rfl⟩) (fun n h => by cases h; exact t_n2) dX3_init_24 fun u4 => ?_
  refine go_aload_n (pc := 27) (j := 0) (i := 0) dX3_init_27 rfl rfl ?_
  refine go_bipush (pc := 28) (v := 8) dX3_init_28 (by decide) ?_
  refine go_sipush (pc := 30) (v := 157) dX3_init_30 (by decide) ?_
  refine go_manew2 (pc := 33) (k := 23) (ty := .array .int) (by rw [sII]; exact q1221) (gOk_m (σ := 87) (n := (Int32.toNatClampNeg 8)) (by decide) (by decide) (fT23 rfl) (gOk_1 (n := Int32.toNatClampNeg 157) (by decide) (by decide))) (gRun_m (σ := 87) (k := 13) (ci := 23) (y := 8) (ty := .int) (by decide) (by decide) (by decide) (by decide) (fT23 rfl) (by decide) (by decide) rfl (List.mem_of_getElem? (i := 0) rfl) (gOk_1 (n := Int32.toNatClampNeg 157) (by decide) (by decide)) (gI1 (y := 157) (by decide) (by decide) (by decide) (by decide)) (by decide) (by decide +kernel) (by decide)) dX3_init_33 fun n3 u5 t_n3 => ?_
  refine go_putR (pc := 37) (n := self) (ci := 3) (k := 5) (t := 23) (r := some n3) pa_X3_17_3 (fun _ => rfl) t_self rfl (Or.inr ⟨_, rfl⟩) (fun n h => by cases h; exact t_n3) dX3_init_37 fun u6 => ?_
  refine go_aload_n (pc := 40) (j := 0) (i := 0) dX3_init_40 rfl rfl ?_
  refine go_bipush (pc := 41) (v := 8) dX3_init_41 (by decide) ?_
  refine go_newa_int (pc := 43) (σ := 749) (by decide) (by decide) dX3_init_43 fun n4 u7 t_n4 => ?_
  refine go_putR (pc := 45) (n := self) (ci := 3) (k := 6) (t := 13) (r := some n4) pa_X3_20_3 (fun _ => rfl) t_self rfl (Or.inr ⟨_, rfl⟩) (fun n h => by cases h; exact t_n4) dX3_init_45 fun u8 => ?_
  refine go_aload_n (pc := 48) (j := 0) (i := 0) dX3_init_48 rfl rfl ?_
  refine go_bipush (pc := 49) (v := 8) dX3_init_49 (by decide) ?_
  refine go_newa_int (pc := 51) (σ := 781) (by decide) (by decide) dX3_init_51 fun n5 u9 t_n5 => ?_
  refine go_putR (pc := 53) (n := self) (ci := 3) (k := 7) (t := 13) (r := some n5) pa_X3_24_3 (fun _ => rfl) t_self rfl (Or.inr ⟨_, rfl⟩) (fun n h => by cases h; exact t_n5) dX3_init_53 fun u10 => ?_
  refine go_aload_n (pc := 56) (j := 0) (i := 0) dX3_init_56 rfl rfl ?_
  refine go_bipush (pc := 57) (v := 8) dX3_init_57 (by decide) ?_
  refine go_newa_int (pc := 59) (σ := 813) (by decide) (by decide) dX3_init_59 fun n6 u11 t_n6 => ?_
  refine go_putR (pc := 61) (n := self) (ci := 3) (k := 8) (t := 13) (r := some n6) pa_X3_27_3 (fun _ => rfl) t_self rfl (Or.inr ⟨_, rfl⟩) (fun n h => by cases h; exact t_n6) dX3_init_61 fun u12 => ?_
  refine go_aload_n (pc := 64) (j := 0) (i := 0) dX3_init_64 rfl rfl ?_
  refine go_bipush (pc := 65) (v := 8) dX3_init_65 (by decide) ?_
  refine go_newa_int (pc := 67) (σ := 845) (by decide) (by decide) dX3_init_67 fun n7 u13 t_n7 => ?_
  refine go_putR (pc := 69) (n := self) (ci := 3) (k := 9) (t := 13) (r := some n7) pa_X3_30_3 (fun _ => rfl) t_self rfl (Or.inr ⟨_, rfl⟩) (fun n h => by cases h; exact t_n7) dX3_init_69 fun u14 => ?_
  refine go_aload_n (pc := 72) (j := 0) (i := 0) dX3_init_72 rfl rfl ?_
  refine go_bipush (pc := 73) (v := 8) dX3_init_73 (by decide) ?_
  refine go_newa_int (pc := 75) (σ := 877) (by decide) (by decide) dX3_init_75 fun n8 u15 t_n8 => ?_
  refine go_putR (pc := 77) (n := self) (ci := 3) (k := 10) (t := 13) (r := some n8) pa_X3_33_3 (fun _ => rfl) t_self rfl (Or.inr ⟨_, rfl⟩) (fun n h => by cases h; exact t_n8) dX3_init_77 fun u16 => ?_
  refine go_aload_n (pc := 80) (j := 0) (i := 0) dX3_init_80 rfl rfl ?_
  refine go_bipush (pc := 81) (v := 8) dX3_init_81 (by decide) ?_
  refine go_newa_int (pc := 83) (σ := 909) (by decide) (by decide) dX3_init_83 fun n9 u17 t_n9 => ?_
  refine go_putR (pc := 85) (n := self) (ci := 3) (k := 11) (t := 13) (r := some n9) pa_X3_36_3 (fun _ => rfl) t_self rfl (Or.inr ⟨_, rfl⟩) (fun n h => by cases h; exact t_n9) dX3_init_85 fun u18 => ?_
  refine go_aload_n (pc := 88) (j := 0) (i := 0) dX3_init_88 rfl rfl ?_
  refine go_bipush (pc := 89) (v := 8) dX3_init_89 (by decide) ?_
  refine go_newa_int (pc := 91) (σ := 941) (by decide) (by decide) dX3_init_91 fun n10 u19 t_n10 => ?_
  refine go_putR (pc := 93) (n := self) (ci := 3) (k := 12) (t := 13) (r := some n10) pa_X3_39_3 (fun _ => rfl) t_self rfl (Or.inr ⟨_, rfl⟩) (fun n h => by cases h; exact t_n10) dX3_init_93 fun u20 => ?_
  refine go_aload_n (pc := 96) (j := 0) (i := 0) dX3_init_96 rfl rfl ?_
  refine go_bipush (pc := 97) (v := 8) dX3_init_97 (by decide) ?_
  refine go_newa_int (pc := 99) (σ := 973) (by decide) (by decide) dX3_init_99 fun n11 u21 t_n11 => ?_
  refine go_putR (pc := 101) (n := self) (ci := 3) (k := 13) (t := 13) (r := some n11) pa_X3_42_3 (fun _ => rfl) t_self rfl (Or.inr ⟨_, rfl⟩) (fun n h => by cases h; exact t_n11) dX3_init_101 fun u22 => ?_
  refine go_aload_n (pc := 104) (j := 0) (i := 0) dX3_init_104 rfl rfl ?_
  refine go_bipush (pc := 105) (v := 8) dX3_init_105 (by decide) ?_
  refine go_newa_int (pc := 107) (σ := 1005) (by decide) (by decide) dX3_init_107 fun n12 u23 t_n12 => ?_
  refine go_putR (pc := 109) (n := self) (ci := 3) (k := 14) (t := 13) (r := some n12) pa_X3_45_3 (fun _ => rfl) t_self rfl (Or.inr ⟨_, rfl⟩) (fun n h => by cases h; exact t_n12) dX3_init_109 fun u24 => ?_
  refine go_aload_n (pc := 112) (j := 0) (i := 0) dX3_init_112 rfl rfl ?_
  refine go_bipush (pc := 113) (v := 8) dX3_init_113 (by decide) ?_
  refine go_newa_int (pc := 115) (σ := 1037) (by decide) (by decide) dX3_init_115 fun n13 u25 t_n13 => ?_
  refine go_putR (pc := 117) (n := self) (ci := 3) (k := 15) (t := 13) (r := some n13) pa_X3_48_3 (fun _ => rfl) t_self rfl (Or.inr ⟨_, rfl⟩) (fun n h => by cases h; exact t_n13) dX3_init_117 fun u26 => ?_
  refine go_aload_n (pc := 120) (j := 0) (i := 0) dX3_init_120 rfl rfl ?_
  refine go_bipush (pc := 121) (v := 8) dX3_init_121 (by decide) ?_
  refine go_newa_int (pc := 123) (σ := 1069) (by decide) (by decide) dX3_init_123 fun n14 u27 t_n14 => ?_
  refine go_putR (pc := 125) (n := self) (ci := 3) (k := 16) (t := 13) (r := some n14) pa_X3_51_3 (fun _ => rfl) t_self rfl (Or.inr ⟨_, rfl⟩) (fun n h => by cases h; exact t_n14) dX3_init_125 fun u28 => ?_
  refine go_aload_n (pc := 128) (j := 0) (i := 0) dX3_init_128 rfl rfl ?_
  refine go_bipush (pc := 129) (v := 8) dX3_init_129 (by decide) ?_
  refine go_newa_int (pc := 131) (σ := 1101) (by decide) (by decide) dX3_init_131 fun n15 u29 t_n15 => ?_
  refine go_putR (pc := 133) (n := self) (ci := 3) (k := 17) (t := 13) (r := some n15) pa_X3_54_3 (fun _ => rfl) t_self rfl (Or.inr ⟨_, rfl⟩) (fun n h => by cases h; exact t_n15) dX3_init_133 fun u30 => ?_
  refine go_aload_n (pc := 136) (j := 0) (i := 0) dX3_init_136 rfl rfl ?_
  refine go_bipush (pc := 137) (v := 8) dX3_init_137 (by decide) ?_
  refine go_newa_int (pc := 139) (σ := 1133) (by decide) (by decide) dX3_init_139 fun n16 u31 t_n16 => ?_
  refine go_putR (pc := 141) (n := self) (ci := 3) (k := 18) (t := 13) (r := some n16) pa_X3_57_3 (fun _ => rfl) t_self rfl (Or.inr ⟨_, rfl⟩) (fun n h => by cases h; exact t_n16) dX3_init_141 fun u32 => ?_
  refine go_aload_n (pc := 144) (j := 0) (i := 0) dX3_init_144 rfl rfl ?_
  refine go_bipush (pc := 145) (v := 8) dX3_init_145 (by decide) ?_
  refine go_newa_int (pc := 147) (σ := 1165) (by decide) (by decide) dX3_init_147 fun n17 u33 t_n17 => ?_
  refine go_putR (pc := 149) (n := self) (ci := 3) (k := 19) (t := 13) (r := some n17) pa_X3_60_3 (fun _ => rfl) t_self rfl (Or.inr ⟨_, rfl⟩) (fun n h => by cases h; exact t_n17) dX3_init_149 fun u34 => ?_
  refine go_aload_n (pc := 152) (j := 0) (i := 0) dX3_init_152 rfl rfl ?_
  refine go_bipush (pc := 153) (v := 20) dX3_init_153 (by decide) ?_
  refine go_newa_int (pc := 155) (σ := 1197) (by decide) (by decide) dX3_init_155 fun n18 u35 t_n18 => ?_
  refine go_putR (pc := 157) (n := self) (ci := 3) (k := 20) (t := 13) (r := some n18) pa_X3_63_3 (fun _ => rfl) t_self rfl (Or.inr ⟨_, rfl⟩) (fun n h => by cases h; exact t_n18) dX3_init_157 fun u36 => ?_
  refine go_aload_n (pc := 160) (j := 0) (i := 0) dX3_init_160 rfl rfl ?_
  refine go_bipush (pc := 161) (v := 20) dX3_init_161 (by decide) ?_
  refine go_newa_int (pc := 163) (σ := 1229) (by decide) (by decide) dX3_init_163 fun n19 u37 t_n19 => ?_
  refine go_putR (pc := 165) (n := self) (ci := 3) (k := 21) (t := 13) (r := some n19) pa_X3_66_3 (fun _ => rfl) t_self rfl (Or.inr ⟨_, rfl⟩) (fun n h => by cases h; exact t_n19) dX3_init_165 fun u38 => ?_
  refine go_aload_n (pc := 168) (j := 0) (i := 0) dX3_init_168 rfl rfl ?_
  refine go_bipush (pc := 169) (v := 20) dX3_init_169 (by decide) ?_
  refine go_newa_int (pc := 171) (σ := 1261) (by decide) (by decide) dX3_init_171 fun n20 u39 t_n20 => ?_
  refine go_putR (pc := 173) (n := self) (ci := 3) (k := 22) (t := 13) (r := some n20) pa_X3_69_3 (fun _ => rfl) t_self rfl (Or.inr ⟨_, rfl⟩) (fun n h => by cases h; exact t_n20) dX3_init_173 fun u40 => ?_
  refine go_aload_n (pc := 176) (j := 0) (i := 0) dX3_init_176 rfl rfl ?_
  refine go_bipush (pc := 177) (v := 20) dX3_init_177 (by decide) ?_
  refine go_newa_int (pc := 179) (σ := 1293) (by decide) (by decide) dX3_init_179 fun n21 u41 t_n21 => ?_
  refine go_putR (pc := 181) (n := self) (ci := 3) (k := 23) (t := 13) (r := some n21) pa_X3_72_3 (fun _ => rfl) t_self rfl (Or.inr ⟨_, rfl⟩) (fun n h => by cases h; exact t_n21) dX3_init_181 fun u42 => ?_
  refine go_aload_n (pc := 184) (j := 0) (i := 0) dX3_init_184 rfl rfl ?_
  refine go_bipush (pc := 185) (v := 20) dX3_init_185 (by decide) ?_
  refine go_newa_int (pc := 187) (σ := 1325) (by decide) (by decide) dX3_init_187 fun n22 u43 t_n22 => ?_
  refine go_putR (pc := 189) (n := self) (ci := 3) (k := 24) (t := 13) (r := some n22) pa_X3_75_3 (fun _ => rfl) t_self rfl (Or.inr ⟨_, rfl⟩) (fun n h => by cases h; exact t_n22) dX3_init_189 fun u44 => ?_
  refine go_aload_n (pc := 192) (j := 0) (i := 0) dX3_init_192 rfl rfl ?_
  refine go_bipush (pc := 193) (v := 20) dX3_init_193 (by decide) ?_
  refine go_newa_int (pc := 195) (σ := 1357) (by decide) (by decide) dX3_init_195 fun n23 u45 t_n23 => ?_
  refine go_putR (pc := 197) (n := self) (ci := 3) (k := 25) (t := 13) (r := some n23) pa_X3_78_3 (fun _ => rfl) t_self rfl (Or.inr ⟨_, rfl⟩) (fun n h => by cases h; exact t_n23) dX3_init_197 fun u46 => ?_
  refine go_aload_n (pc := 200) (j := 0) (i := 0) dX3_init_200 rfl rfl ?_
  refine go_bipush (pc := 201) (v := 20) dX3_init_201 (by decide) ?_
  refine go_newa_int (pc := 203) (σ := 1389) (by decide) (by decide) dX3_init_203 fun n24 u47 t_n24 => ?_
  refine go_putR (pc := 205) (n := self) (ci := 3) (k := 26) (t := 13) (r := some n24) pa_X3_81_3 (fun _ => rfl) t_self rfl (Or.inr ⟨_, rfl⟩) (fun n h => by cases h; exact t_n24) dX3_init_205 fun u48 => ?_
  refine go_aload_n (pc := 208) (j := 0) (i := 0) dX3_init_208 rfl rfl ?_
  refine go_bipush (pc := 209) (v := 20) dX3_init_209 (by decide) ?_
  refine go_newa_int (pc := 211) (σ := 1421) (by decide) (by decide) dX3_init_211 fun n25 u49 t_n25 => ?_
  refine go_putR (pc := 213) (n := self) (ci := 3) (k := 27) (t := 13) (r := some n25) pa_X3_84_3 (fun _ => rfl) t_self rfl (Or.inr ⟨_, rfl⟩) (fun n h => by cases h; exact t_n25) dX3_init_213 fun u50 => ?_
  refine go_aload_n (pc := 216) (j := 0) (i := 0) dX3_init_216 rfl rfl ?_
  refine go_bipush (pc := 217) (v := 20) dX3_init_217 (by decide) ?_
  refine go_newa_int (pc := 219) (σ := 1453) (by decide) (by decide) dX3_init_219 fun n26 u51 t_n26 => ?_
  refine go_putR (pc := 221) (n := self) (ci := 3) (k := 28) (t := 13) (r := some n26) pa_X3_87_3 (fun _ => rfl) t_self rfl (Or.inr ⟨_, rfl⟩) (fun n h => by cases h; exact t_n26) dX3_init_221 fun u52 => ?_
  refine go_aload_n (pc := 224) (j := 0) (i := 0) dX3_init_224 rfl rfl ?_
  refine go_bipush (pc := 225) (v := 20) dX3_init_225 (by decide) ?_
  refine go_newa_int (pc := 227) (σ := 1485) (by decide) (by decide) dX3_init_227 fun n27 u53 t_n27 => ?_
  refine go_putR (pc := 229) (n := self) (ci := 3) (k := 29) (t := 13) (r := some n27) pa_X3_90_3 (fun _ => rfl) t_self rfl (Or.inr ⟨_, rfl⟩) (fun n h => by cases h; exact t_n27) dX3_init_229 fun u54 => ?_
  refine go_aload_n (pc := 232) (j := 0) (i := 0) dX3_init_232 rfl rfl ?_
  refine go_bipush (pc := 233) (v := 20) dX3_init_233 (by decide) ?_
  refine go_newa_int (pc := 235) (σ := 1517) (by decide) (by decide) dX3_init_235 fun n28 u55 t_n28 => ?_
  refine go_putR (pc := 237) (n := self) (ci := 3) (k := 30) (t := 13) (r := some n28) pa_X3_93_3 (fun _ => rfl) t_self rfl (Or.inr ⟨_, rfl⟩) (fun n h => by cases h; exact t_n28) dX3_init_237 fun u56 => ?_
  refine go_aload_n (pc := 240) (j := 0) (i := 0) dX3_init_240 rfl rfl ?_
  refine go_bipush (pc := 241) (v := 20) dX3_init_241 (by decide) ?_
  refine go_newa_int (pc := 243) (σ := 1549) (by decide) (by decide) dX3_init_243 fun n29 u57 t_n29 => ?_
  refine go_putR (pc := 245) (n := self) (ci := 3) (k := 31) (t := 13) (r := some n29) pa_X3_96_3 (fun _ => rfl) t_self rfl (Or.inr ⟨_, rfl⟩) (fun n h => by cases h; exact t_n29) dX3_init_245 fun u58 => ?_
  refine go_aload_n (pc := 248) (j := 0) (i := 0) dX3_init_248 rfl rfl ?_
  refine go_bipush (pc := 249) (v := 20) dX3_init_249 (by decide) ?_
  refine go_newa_int (pc := 251) (σ := 1581) (by decide) (by decide) dX3_init_251 fun n30 u59 t_n30 => ?_
  refine go_putR (pc := 253) (n := self) (ci := 3) (k := 32) (t := 13) (r := some n30) pa_X3_99_3 (fun _ => rfl) t_self rfl (Or.inr ⟨_, rfl⟩) (fun n h => by cases h; exact t_n30) dX3_init_253 fun u60 => ?_
  refine go_aload_n (pc := 256) (j := 0) (i := 0) dX3_init_256 rfl rfl ?_
  refine go_bipush (pc := 257) (v := 20) dX3_init_257 (by decide) ?_
  refine go_newa_int (pc := 259) (σ := 1613) (by decide) (by decide) dX3_init_259 fun n31 u61 t_n31 => ?_
  refine go_putR (pc := 261) (n := self) (ci := 3) (k := 33) (t := 13) (r := some n31) pa_X3_102_3 (fun _ => rfl) t_self rfl (Or.inr ⟨_, rfl⟩) (fun n h => by cases h; exact t_n31) dX3_init_261 fun u62 => ?_
  refine go_aload_n (pc := 264) (j := 0) (i := 0) dX3_init_264 rfl rfl ?_
  refine go_bipush (pc := 265) (v := 20) dX3_init_265 (by decide) ?_
  refine go_newa_long (pc := 267) (σ := 16) (by decide) (by decide) dX3_init_267 fun n32 u63 t_n32 => ?_
  refine go_putR (pc := 269) (n := self) (ci := 3) (k := 34) (t := 16) (r := some n32) pa_X3_105_3 (fun _ => rfl) t_self rfl (Or.inr ⟨_, rfl⟩) (fun n h => by cases h; exact t_n32) dX3_init_269 fun u64 => ?_
  refine go_aload_n (pc := 272) (j := 0) (i := 0) dX3_init_272 rfl rfl ?_
  refine go_bipush (pc := 273) (v := 20) dX3_init_273 (by decide) ?_
  refine go_newa_int (pc := 275) (σ := 1645) (by decide) (by decide) dX3_init_275 fun n33 u65 t_n33 => ?_
  refine go_putR (pc := 277) (n := self) (ci := 3) (k := 35) (t := 13) (r := some n33) pa_X3_109_3 (fun _ => rfl) t_self rfl (Or.inr ⟨_, rfl⟩) (fun n h => by cases h; exact t_n33) dX3_init_277 fun u66 => ?_
  refine go_aload_n (pc := 280) (j := 0) (i := 0) dX3_init_280 rfl rfl ?_
  refine go_bipush (pc := 281) (v := 20) dX3_init_281 (by decide) ?_
  refine go_newa_int (pc := 283) (σ := 1677) (by decide) (by decide) dX3_init_283 fun n34 u67 t_n34 => ?_
  refine go_putR (pc := 285) (n := self) (ci := 3) (k := 36) (t := 13) (r := some n34) pa_X3_112_3 (fun _ => rfl) t_self rfl (Or.inr ⟨_, rfl⟩) (fun n h => by cases h; exact t_n34) dX3_init_285 fun u68 => ?_
  refine go_aload_n (pc := 288) (j := 0) (i := 0) dX3_init_288 rfl rfl ?_
  refine go_bipush (pc := 289) (v := 20) dX3_init_289 (by decide) ?_
  refine go_newa_int (pc := 291) (σ := 1709) (by decide) (by decide) dX3_init_291 fun n35 u69 t_n35 => ?_
  refine go_putR (pc := 293) (n := self) (ci := 3) (k := 37) (t := 13) (r := some n35) pa_X3_115_3 (fun _ => rfl) t_self rfl (Or.inr ⟨_, rfl⟩) (fun n h => by cases h; exact t_n35) dX3_init_293 fun u70 => ?_
  refine go_aload_n (pc := 296) (j := 0) (i := 0) dX3_init_296 rfl rfl ?_
  refine go_bipush (pc := 297) (v := 8) dX3_init_297 (by decide) ?_
  refine go_newa_int (pc := 299) (σ := 1741) (by decide) (by decide) dX3_init_299 fun n36 u71 t_n36 => ?_
  refine go_putR (pc := 301) (n := self) (ci := 3) (k := 39) (t := 13) (r := some n36) pa_X3_118_3 (fun _ => rfl) t_self rfl (Or.inr ⟨_, rfl⟩) (fun n h => by cases h; exact t_n36) dX3_init_301 fun u72 => ?_
  refine go_aload_n (pc := 304) (j := 0) (i := 0) dX3_init_304 rfl rfl ?_
  refine go_sipush (pc := 305) (v := 400) dX3_init_305 (by decide) ?_
  refine go_newa_byte (pc := 308) (σ := 110) (by decide) (by decide) dX3_init_308 fun n37 u73 t_n37 => ?_
  refine go_putR (pc := 310) (n := self) (ci := 3) (k := 40) (t := 14) (r := some n37) pa_X3_121_3 (fun _ => rfl) t_self rfl (Or.inr ⟨_, rfl⟩) (fun n h => by cases h; exact t_n37) dX3_init_310 fun u74 => ?_
  refine go_aload_n (pc := 313) (j := 0) (i := 0) dX3_init_313 rfl rfl ?_
  refine go_bipush (pc := 314) (v := 9) dX3_init_314 (by decide) ?_
  refine go_iconst (pc := 316) (v := 5) dX3_init_316 (by decide) ?_
  refine go_sipush (pc := 317) (v := 840) dX3_init_317 (by decide) ?_
  refine go_manew3 (pc := 320) (k := 24) (ty := .array (.array .int)) (by rw [sIII]; exact q1223) (gOk_m (σ := 24) (n := (Int32.toNatClampNeg 9)) (by decide) (by decide) (fT24 rfl) (gOk_m (σ := 119) (n := (Int32.toNatClampNeg 5)) (by decide) (by decide) (fT23 rfl) (gOk_1 (n := Int32.toNatClampNeg 840) (by decide) (by decide)))) (gRun_m (σ := 24) (k := 23) (ci := 24) (y := 9) (ty := .array .int) (by decide) (by decide) (by decide) (by decide) (fT24 rfl) (by decide) (by decide) rfl (List.mem_of_getElem? (i := 1) rfl) (gOk_m (σ := 119) (n := (Int32.toNatClampNeg 5)) (by decide) (by decide) (fT23 rfl) (gOk_1 (n := Int32.toNatClampNeg 840) (by decide) (by decide))) (gRun_m (σ := 119) (k := 13) (ci := 23) (y := 5) (ty := .int) (by decide) (by decide) (by decide) (by decide) (fT23 rfl) (by decide) (by decide) rfl (List.mem_of_getElem? (i := 0) rfl) (gOk_1 (n := Int32.toNatClampNeg 840) (by decide) (by decide)) (gI1 (y := 840) (by decide) (by decide) (by decide) (by decide)) (by decide) (by decide +kernel) (by decide)) (by decide) (by decide +kernel) (by decide)) dX3_init_320 fun n38 u75 t_n38 => ?_
  refine go_putR (pc := 324) (n := self) (ci := 3) (k := 48) (t := 24) (r := some n38) pa_X3_127_3 (fun _ => rfl) t_self rfl (Or.inr ⟨_, rfl⟩) (fun n h => by cases h; exact t_n38) dX3_init_324 fun u76 => ?_
  refine go_aload_n (pc := 327) (j := 0) (i := 0) dX3_init_327 rfl rfl ?_
  refine go_bipush (pc := 328) (v := 9) dX3_init_328 (by decide) ?_
  refine go_iconst (pc := 330) (v := 5) dX3_init_330 (by decide) ?_
  refine go_manew2 (pc := 331) (k := 23) (ty := .array .int) (by rw [sII]; exact q1221) (gOk_m (σ := 151) (n := (Int32.toNatClampNeg 9)) (by decide) (by decide) (fT23 rfl) (gOk_1 (n := Int32.toNatClampNeg 5) (by decide) (by decide))) (gRun_m (σ := 151) (k := 13) (ci := 23) (y := 9) (ty := .int) (by decide) (by decide) (by decide) (by decide) (fT23 rfl) (by decide) (by decide) rfl (List.mem_of_getElem? (i := 0) rfl) (gOk_1 (n := Int32.toNatClampNeg 5) (by decide) (by decide)) (gI1 (y := 5) (by decide) (by decide) (by decide) (by decide)) (by decide) (by decide +kernel) (by decide)) dX3_init_331 fun n39 u77 t_n39 => ?_
  refine go_putR (pc := 335) (n := self) (ci := 3) (k := 49) (t := 23) (r := some n39) pa_X3_130_3 (fun _ => rfl) t_self rfl (Or.inr ⟨_, rfl⟩) (fun n h => by cases h; exact t_n39) dX3_init_335 fun u78 => ?_
  refine go_aload_n (pc := 338) (j := 0) (i := 0) dX3_init_338 rfl rfl ?_
  refine go_bipush (pc := 339) (v := 12) dX3_init_339 (by decide) ?_
  refine go_newa_int (pc := 341) (σ := 1837) (by decide) (by decide) dX3_init_341 fun n40 u79 t_n40 => ?_
  refine go_putR (pc := 343) (n := self) (ci := 3) (k := 50) (t := 13) (r := some n40) pa_X3_133_3 (fun _ => rfl) t_self rfl (Or.inr ⟨_, rfl⟩) (fun n h => by cases h; exact t_n40) dX3_init_343 fun u80 => ?_
  refine go_aload_n (pc := 346) (j := 0) (i := 0) dX3_init_346 rfl rfl ?_
  refine go_bipush (pc := 347) (v := 12) dX3_init_347 (by decide) ?_
  refine go_newa_int (pc := 349) (σ := 1869) (by decide) (by decide) dX3_init_349 fun n41 u81 t_n41 => ?_
  refine go_putR (pc := 351) (n := self) (ci := 3) (k := 51) (t := 13) (r := some n41) pa_X3_136_3 (fun _ => rfl) t_self rfl (Or.inr ⟨_, rfl⟩) (fun n h => by cases h; exact t_n41) dX3_init_351 fun u82 => ?_
  refine go_aload_n (pc := 354) (j := 0) (i := 0) dX3_init_354 rfl rfl ?_
  refine go_iconst (pc := 355) (v := 5) dX3_init_355 (by decide) ?_
  refine go_anew (pc := 356) (ci := 26) (σ := 26) (C := "java/lang/String") rfl q1225 (List.mem_of_getElem? (i := 6) rfl) (by decide) (by decide) (by decide) (by decide) dX3_init_356 fun n42 u83 t_n42 => ?_
  refine go_dupA (pc := 359) dX3_init_359 ?_
  refine go_iconst (pc := 360) (v := 0) dX3_init_360 (by decide) ?_
  refine go_ldcS (pc := 361) (k := 6) dX3_init_361 rfl ?_
  refine go_aastS (pc := 363) t_n42 (by decide) dX3_init_363 fun u84 => ?_
  refine go_dupA (pc := 364) dX3_init_364 ?_
  refine go_iconst (pc := 365) (v := 1) dX3_init_365 (by decide) ?_
  refine go_ldcS (pc := 366) (k := 7) dX3_init_366 rfl ?_
  refine go_aastS (pc := 368) t_n42 (by decide) dX3_init_368 fun u85 => ?_
  refine go_dupA (pc := 369) dX3_init_369 ?_
  refine go_iconst (pc := 370) (v := 2) dX3_init_370 (by decide) ?_
  refine go_ldcS (pc := 371) (k := 8) dX3_init_371 rfl ?_
  refine go_aastS (pc := 373) t_n42 (by decide) dX3_init_373 fun u86 => ?_
  refine go_dupA (pc := 374) dX3_init_374 ?_
  refine go_iconst (pc := 375) (v := 3) dX3_init_375 (by decide) ?_
  refine go_ldcS (pc := 376) (k := 9) dX3_init_376 rfl ?_
  refine go_aastS (pc := 378) t_n42 (by decide) dX3_init_378 fun u87 => ?_
  refine go_dupA (pc := 379) dX3_init_379 ?_
  refine go_iconst (pc := 380) (v := 4) dX3_init_380 (by decide) ?_
  refine go_ldcS (pc := 381) (k := 10) dX3_init_381 rfl ?_
  refine go_aastS (pc := 383) t_n42 (by decide) dX3_init_383 fun u88 => ?_
  refine go_putR (pc := 384) (n := self) (ci := 3) (k := 54) (t := 26) (r := some n42) pa_X3_151_3 (fun _ => rfl) t_self rfl (Or.inr ⟨_, rfl⟩) (fun n h => by cases h; exact t_n42) dX3_init_384 fun u89 => ?_
  refine go_aload_n (pc := 387) (j := 0) (i := 0) dX3_init_387 rfl rfl ?_
  refine go_bipush (pc := 388) (v := 13) dX3_init_388 (by decide) ?_
  refine go_anew (pc := 390) (ci := 26) (σ := 58) (C := "java/lang/String") rfl q1225 (List.mem_of_getElem? (i := 6) rfl) (by decide) (by decide) (by decide) (by decide) dX3_init_390 fun n43 u90 t_n43 => ?_
  refine go_dupA (pc := 393) dX3_init_393 ?_
  refine go_iconst (pc := 394) (v := 0) dX3_init_394 (by decide) ?_
  refine go_ldcS (pc := 395) (k := 11) dX3_init_395 rfl ?_
  refine go_aastS (pc := 397) t_n43 (by decide) dX3_init_397 fun u91 => ?_
  refine go_dupA (pc := 398) dX3_init_398 ?_
  refine go_iconst (pc := 399) (v := 1) dX3_init_399 (by decide) ?_
  refine go_ldcS (pc := 400) (k := 12) dX3_init_400 rfl ?_
  refine go_aastS (pc := 402) t_n43 (by decide) dX3_init_402 fun u92 => ?_
  refine go_dupA (pc := 403) dX3_init_403 ?_
  refine go_iconst (pc := 404) (v := 2) dX3_init_404 (by decide) ?_
  refine go_ldcS (pc := 405) (k := 13) dX3_init_405 rfl ?_
  refine go_aastS (pc := 407) t_n43 (by decide) dX3_init_407 fun u93 => ?_
  refine go_dupA (pc := 408) dX3_init_408 ?_
  refine go_iconst (pc := 409) (v := 3) dX3_init_409 (by decide) ?_
  refine go_ldcS (pc := 410) (k := 14) dX3_init_410 rfl ?_
  refine go_aastS (pc := 412) t_n43 (by decide) dX3_init_412 fun u94 => ?_
  refine go_dupA (pc := 413) dX3_init_413 ?_
  refine go_iconst (pc := 414) (v := 4) dX3_init_414 (by decide) ?_
  refine go_ldcS (pc := 415) (k := 15) dX3_init_415 rfl ?_
  refine go_aastS (pc := 417) t_n43 (by decide) dX3_init_417 fun u95 => ?_
  refine go_dupA (pc := 418) dX3_init_418 ?_
  refine go_iconst (pc := 419) (v := 5) dX3_init_419 (by decide) ?_
  refine go_ldcS (pc := 420) (k := 16) dX3_init_420 rfl ?_
  refine go_aastS (pc := 422) t_n43 (by decide) dX3_init_422 fun u96 => ?_
  refine go_dupA (pc := 423) dX3_init_423 ?_
  refine go_bipush (pc := 424) (v := 6) dX3_init_424 (by decide) ?_
  refine go_ldcS (pc := 426) (k := 17) dX3_init_426 rfl ?_
  refine go_aastS (pc := 428) t_n43 (by decide) dX3_init_428 fun u97 => ?_
  refine go_dupA (pc := 429) dX3_init_429 ?_
  refine go_bipush (pc := 430) (v := 7) dX3_init_430 (by decide) ?_
  refine go_ldcS (pc := 432) (k := 18) dX3_init_432 rfl ?_
  refine go_aastS (pc := 434) t_n43 (by decide) dX3_init_434 fun u98 => ?_
  refine go_dupA (pc := 435) dX3_init_435 ?_
  refine go_bipush (pc := 436) (v := 8) dX3_init_436 (by decide) ?_
  refine go_ldcS (pc := 438) (k := 19) dX3_init_438 rfl ?_
  refine go_aastS (pc := 440) t_n43 (by decide) dX3_init_440 fun u99 => ?_
  refine go_dupA (pc := 441) dX3_init_441 ?_
  refine go_bipush (pc := 442) (v := 9) dX3_init_442 (by decide) ?_
  refine go_ldcS (pc := 444) (k := 20) dX3_init_444 rfl ?_
  refine go_aastS (pc := 446) t_n43 (by decide) dX3_init_446 fun u100 => ?_
  refine go_dupA (pc := 447) dX3_init_447 ?_
  refine go_bipush (pc := 448) (v := 10) dX3_init_448 (by decide) ?_
  refine go_ldcS (pc := 450) (k := 21) dX3_init_450 rfl ?_
  refine go_aastS (pc := 452) t_n43 (by decide) dX3_init_452 fun u101 => ?_
  refine go_dupA (pc := 453) dX3_init_453 ?_
  refine go_bipush (pc := 454) (v := 11) dX3_init_454 (by decide) ?_
  refine go_ldcS (pc := 456) (k := 22) dX3_init_456 rfl ?_
  refine go_aastS (pc := 458) t_n43 (by decide) dX3_init_458 fun u102 => ?_
  refine go_dupA (pc := 459) dX3_init_459 ?_
  refine go_bipush (pc := 460) (v := 12) dX3_init_460 (by decide) ?_
  refine go_ldcS (pc := 462) (k := 23) dX3_init_462 rfl ?_
  refine go_aastS (pc := 464) t_n43 (by decide) dX3_init_464 fun u103 => ?_
  refine go_putR (pc := 465) (n := self) (ci := 3) (k := 55) (t := 26) (r := some n43) pa_X3_176_3 (fun _ => rfl) t_self rfl (Or.inr ⟨_, rfl⟩) (fun n h => by cases h; exact t_n43) dX3_init_465 fun u104 => ?_
  refine go_aload_n (pc := 468) (j := 0) (i := 0) dX3_init_468 rfl rfl ?_
  refine go_bipush (pc := 469) (v := 13) dX3_init_469 (by decide) ?_
  refine go_newa_int (pc := 471) (σ := 1901) (by decide) (by decide) dX3_init_471 fun n44 u105 t_n44 => ?_
  refine go_putR (pc := 473) (n := self) (ci := 3) (k := 56) (t := 13) (r := some n44) pa_X3_179_3 (fun _ => rfl) t_self rfl (Or.inr ⟨_, rfl⟩) (fun n h => by cases h; exact t_n44) dX3_init_473 fun u106 => ?_
  refine go_aload_n (pc := 476) (j := 0) (i := 0) dX3_init_476 rfl rfl ?_
  refine go_sipush (pc := 477) (v := 420) dX3_init_477 (by decide) ?_
  refine go_newa_int (pc := 480) (σ := 1933) (by decide) (by decide) dX3_init_480 fun n45 u107 t_n45 => ?_
  refine go_putR (pc := 482) (n := self) (ci := 3) (k := 57) (t := 13) (r := some n45) pa_X3_182_3 (fun _ => rfl) t_self rfl (Or.inr ⟨_, rfl⟩) (fun n h => by cases h; exact t_n45) dX3_init_482 fun u108 => ?_
  refine go_aload_n (pc := 485) (j := 0) (i := 0) dX3_init_485 rfl rfl ?_
  refine go_sipush (pc := 486) (v := 300) dX3_init_486 (by decide) ?_
  refine go_newa_int (pc := 489) (σ := 1965) (by decide) (by decide) dX3_init_489 fun n46 u109 t_n46 => ?_
  refine go_putR (pc := 491) (n := self) (ci := 3) (k := 58) (t := 13) (r := some n46) pa_X3_185_3 (fun _ => rfl) t_self rfl (Or.inr ⟨_, rfl⟩) (fun n h => by cases h; exact t_n46) dX3_init_491 fun u110 => ?_
  refine go_aload_n (pc := 494) (j := 0) (i := 0) dX3_init_494 rfl rfl ?_
  refine go_sipush (pc := 495) (v := 300) dX3_init_495 (by decide) ?_
  refine go_newa_int (pc := 498) (σ := 1997) (by decide) (by decide) dX3_init_498 fun n47 u111 t_n47 => ?_
  refine go_putR (pc := 500) (n := self) (ci := 3) (k := 59) (t := 13) (r := some n47) pa_X3_188_3 (fun _ => rfl) t_self rfl (Or.inr ⟨_, rfl⟩) (fun n h => by cases h; exact t_n47) dX3_init_500 fun u112 => ?_
  refine go_aload_n (pc := 503) (j := 0) (i := 0) dX3_init_503 rfl rfl ?_
  refine go_sipush (pc := 504) (v := 300) dX3_init_504 (by decide) ?_
  refine go_newa_int (pc := 507) (σ := 2029) (by decide) (by decide) dX3_init_507 fun n48 u113 t_n48 => ?_
  refine go_putR (pc := 509) (n := self) (ci := 3) (k := 60) (t := 13) (r := some n48) pa_X3_191_3 (fun _ => rfl) t_self rfl (Or.inr ⟨_, rfl⟩) (fun n h => by cases h; exact t_n48) dX3_init_509 fun u114 => ?_
  refine go_aload_n (pc := 512) (j := 0) (i := 0) dX3_init_512 rfl rfl ?_
  refine go_sipush (pc := 513) (v := 300) dX3_init_513 (by decide) ?_
  refine go_newa_int (pc := 516) (σ := 2061) (by decide) (by decide) dX3_init_516 fun n49 u115 t_n49 => ?_
  refine go_putR (pc := 518) (n := self) (ci := 3) (k := 61) (t := 13) (r := some n49) pa_X3_194_3 (fun _ => rfl) t_self rfl (Or.inr ⟨_, rfl⟩) (fun n h => by cases h; exact t_n49) dX3_init_518 fun u116 => ?_
  refine go_aload_n (pc := 521) (j := 0) (i := 0) dX3_init_521 rfl rfl ?_
  refine go_sipush (pc := 522) (v := 300) dX3_init_522 (by decide) ?_
  refine go_newa_int (pc := 525) (σ := 2093) (by decide) (by decide) dX3_init_525 fun n50 u117 t_n50 => ?_
  refine go_putR (pc := 527) (n := self) (ci := 3) (k := 62) (t := 13) (r := some n50) pa_X3_197_3 (fun _ => rfl) t_self rfl (Or.inr ⟨_, rfl⟩) (fun n h => by cases h; exact t_n50) dX3_init_527 fun u118 => ?_
  refine go_aload_n (pc := 530) (j := 0) (i := 0) dX3_init_530 rfl rfl ?_
  refine go_sipush (pc := 531) (v := 300) dX3_init_531 (by decide) ?_
  refine go_newa_int (pc := 534) (σ := 2125) (by decide) (by decide) dX3_init_534 fun n51 u119 t_n51 => ?_
  refine go_putR (pc := 536) (n := self) (ci := 3) (k := 63) (t := 13) (r := some n51) pa_X3_200_3 (fun _ => rfl) t_self rfl (Or.inr ⟨_, rfl⟩) (fun n h => by cases h; exact t_n51) dX3_init_536 fun u120 => ?_
  refine go_aload_n (pc := 539) (j := 0) (i := 0) dX3_init_539 rfl rfl ?_
  refine go_bipush (pc := 540) (v := 20) dX3_init_540 (by decide) ?_
  refine go_newa_int (pc := 542) (σ := 2157) (by decide) (by decide) dX3_init_542 fun n52 u121 t_n52 => ?_
  refine go_putR (pc := 544) (n := self) (ci := 3) (k := 65) (t := 13) (r := some n52) pa_X3_203_3 (fun _ => rfl) t_self rfl (Or.inr ⟨_, rfl⟩) (fun n h => by cases h; exact t_n52) dX3_init_544 fun u122 => ?_
  refine go_aload_n (pc := 547) (j := 0) (i := 0) dX3_init_547 rfl rfl ?_
  refine go_bipush (pc := 548) (v := 8) dX3_init_548 (by decide) ?_
  refine go_newa_int (pc := 550) (σ := 2189) (by decide) (by decide) dX3_init_550 fun n53 u123 t_n53 => ?_
  refine go_putR (pc := 552) (n := self) (ci := 3) (k := 66) (t := 13) (r := some n53) pa_X3_206_3 (fun _ => rfl) t_self rfl (Or.inr ⟨_, rfl⟩) (fun n h => by cases h; exact t_n53) dX3_init_552 fun u124 => ?_
  refine go_aload_n (pc := 555) (j := 0) (i := 0) dX3_init_555 rfl rfl ?_
  refine go_bipush (pc := 556) (v := 20) dX3_init_556 (by decide) ?_
  refine go_newa_int (pc := 558) (σ := 2221) (by decide) (by decide) dX3_init_558 fun n54 u125 t_n54 => ?_
  refine go_putR (pc := 560) (n := self) (ci := 3) (k := 67) (t := 13) (r := some n54) pa_X3_209_3 (fun _ => rfl) t_self rfl (Or.inr ⟨_, rfl⟩) (fun n h => by cases h; exact t_n54) dX3_init_560 fun u126 => ?_
  refine go_aload_n (pc := 563) (j := 0) (i := 0) dX3_init_563 rfl rfl ?_
  refine go_bipush (pc := 564) (v := 20) dX3_init_564 (by decide) ?_
  refine go_newa_int (pc := 566) (σ := 2253) (by decide) (by decide) dX3_init_566 fun n55 u127 t_n55 => ?_
  refine go_putR (pc := 568) (n := self) (ci := 3) (k := 68) (t := 13) (r := some n55) pa_X3_212_3 (fun _ => rfl) t_self rfl (Or.inr ⟨_, rfl⟩) (fun n h => by cases h; exact t_n55) dX3_init_568 fun u128 => ?_
  refine go_aload_n (pc := 571) (j := 0) (i := 0) dX3_init_571 rfl rfl ?_
  refine go_sipush (pc := 572) (v := 200) dX3_init_572 (by decide) ?_
  refine go_newa_int (pc := 575) (σ := 2285) (by decide) (by decide) dX3_init_575 fun n56 u129 t_n56 => ?_
  refine go_putR (pc := 577) (n := self) (ci := 3) (k := 72) (t := 13) (r := some n56) pa_X3_215_3 (fun _ => rfl) t_self rfl (Or.inr ⟨_, rfl⟩) (fun n h => by cases h; exact t_n56) dX3_init_577 fun u130 => ?_
  refine go_aload_n (pc := 580) (j := 0) (i := 0) dX3_init_580 rfl rfl ?_
  refine go_sipush (pc := 581) (v := 200) dX3_init_581 (by decide) ?_
  refine go_newa_int (pc := 584) (σ := 2317) (by decide) (by decide) dX3_init_584 fun n57 u131 t_n57 => ?_
  refine go_putR (pc := 586) (n := self) (ci := 3) (k := 73) (t := 13) (r := some n57) pa_X3_218_3 (fun _ => rfl) t_self rfl (Or.inr ⟨_, rfl⟩) (fun n h => by cases h; exact t_n57) dX3_init_586 fun u132 => ?_
  refine go_aload_n (pc := 589) (j := 0) (i := 0) dX3_init_589 rfl rfl ?_
  refine go_sipush (pc := 590) (v := 200) dX3_init_590 (by decide) ?_
  refine go_newa_int (pc := 593) (σ := 2349) (by decide) (by decide) dX3_init_593 fun n58 u133 t_n58 => ?_
  refine go_putR (pc := 595) (n := self) (ci := 3) (k := 74) (t := 13) (r := some n58) pa_X3_221_3 (fun _ => rfl) t_self rfl (Or.inr ⟨_, rfl⟩) (fun n h => by cases h; exact t_n58) dX3_init_595 fun u134 => ?_
  refine go_aload_n (pc := 598) (j := 0) (i := 0) dX3_init_598 rfl rfl ?_
  refine go_sipush (pc := 599) (v := 200) dX3_init_599 (by decide) ?_
  refine go_newa_int (pc := 602) (σ := 2381) (by decide) (by decide) dX3_init_602 fun n59 u135 t_n59 => ?_
  refine go_putR (pc := 604) (n := self) (ci := 3) (k := 75) (t := 13) (r := some n59) pa_X3_224_3 (fun _ => rfl) t_self rfl (Or.inr ⟨_, rfl⟩) (fun n h => by cases h; exact t_n59) dX3_init_604 fun u136 => ?_
  refine go_aload_n (pc := 607) (j := 0) (i := 0) dX3_init_607 rfl rfl ?_
  refine go_sipush (pc := 608) (v := 200) dX3_init_608 (by decide) ?_
  refine go_newa_int (pc := 611) (σ := 2413) (by decide) (by decide) dX3_init_611 fun n60 u137 t_n60 => ?_
  refine go_putR (pc := 613) (n := self) (ci := 3) (k := 76) (t := 13) (r := some n60) pa_X3_227_3 (fun _ => rfl) t_self rfl (Or.inr ⟨_, rfl⟩) (fun n h => by cases h; exact t_n60) dX3_init_613 fun u138 => ?_
  refine go_aload_n (pc := 616) (j := 0) (i := 0) dX3_init_616 rfl rfl ?_
  refine go_sipush (pc := 617) (v := 200) dX3_init_617 (by decide) ?_
  refine go_newa_bool (pc := 620) (σ := 15) (by decide) (by decide) dX3_init_620 fun n61 u139 t_n61 => ?_
  refine go_putR (pc := 622) (n := self) (ci := 3) (k := 77) (t := 15) (r := some n61) pa_X3_230_3 (fun _ => rfl) t_self rfl (Or.inr ⟨_, rfl⟩) (fun n h => by cases h; exact t_n61) dX3_init_622 fun u140 => ?_
  refine go_aload_n (pc := 625) (j := 0) (i := 0) dX3_init_625 rfl rfl ?_
  refine go_bipush (pc := 626) (v := 6) dX3_init_626 (by decide) ?_
  refine go_newa_int (pc := 628) (σ := 2445) (by decide) (by decide) dX3_init_628 fun n62 u141 t_n62 => ?_
  refine go_putR (pc := 630) (n := self) (ci := 3) (k := 79) (t := 13) (r := some n62) pa_X3_234_3 (fun _ => rfl) t_self rfl (Or.inr ⟨_, rfl⟩) (fun n h => by cases h; exact t_n62) dX3_init_630 fun u142 => ?_
  refine go_aload_n (pc := 633) (j := 0) (i := 0) dX3_init_633 rfl rfl ?_
  refine go_bipush (pc := 634) (v := 6) dX3_init_634 (by decide) ?_
  refine go_newa_int (pc := 636) (σ := 2477) (by decide) (by decide) dX3_init_636 fun n63 u143 t_n63 => ?_
  refine go_putR (pc := 638) (n := self) (ci := 3) (k := 80) (t := 13) (r := some n63) pa_X3_237_3 (fun _ => rfl) t_self rfl (Or.inr ⟨_, rfl⟩) (fun n h => by cases h; exact t_n63) dX3_init_638 fun u144 => ?_
  refine go_aload_n (pc := 641) (j := 0) (i := 0) dX3_init_641 rfl rfl ?_
  refine go_bipush (pc := 642) (v := 6) dX3_init_642 (by decide) ?_
  refine go_newa_int (pc := 644) (σ := 2509) (by decide) (by decide) dX3_init_644 fun n64 u145 t_n64 => ?_
  refine go_putR (pc := 646) (n := self) (ci := 3) (k := 81) (t := 13) (r := some n64) pa_X3_240_3 (fun _ => rfl) t_self rfl (Or.inr ⟨_, rfl⟩) (fun n h => by cases h; exact t_n64) dX3_init_646 fun u146 => ?_
  refine go_aload_n (pc := 649) (j := 0) (i := 0) dX3_init_649 rfl rfl ?_
  refine go_bipush (pc := 650) (v := 6) dX3_init_650 (by decide) ?_
  refine go_newa_int (pc := 652) (σ := 2541) (by decide) (by decide) dX3_init_652 fun n65 u147 t_n65 => ?_
  refine go_putR (pc := 654) (n := self) (ci := 3) (k := 82) (t := 13) (r := some n65) pa_X3_243_3 (fun _ => rfl) t_self rfl (Or.inr ⟨_, rfl⟩) (fun n h => by cases h; exact t_n65) dX3_init_654 fun u148 => ?_
  refine go_aload_n (pc := 657) (j := 0) (i := 0) dX3_init_657 rfl rfl ?_
  refine go_bipush (pc := 658) (v := 6) dX3_init_658 (by decide) ?_
  refine go_newa_int (pc := 660) (σ := 2573) (by decide) (by decide) dX3_init_660 fun n66 u149 t_n66 => ?_
  refine go_putR (pc := 662) (n := self) (ci := 3) (k := 83) (t := 13) (r := some n66) pa_X3_246_3 (fun _ => rfl) t_self rfl (Or.inr ⟨_, rfl⟩) (fun n h => by cases h; exact t_n66) dX3_init_662 fun u150 => ?_
  refine go_aload_n (pc := 665) (j := 0) (i := 0) dX3_init_665 rfl rfl ?_
  refine go_bipush (pc := 666) (v := 6) dX3_init_666 (by decide) ?_
  refine go_bipush (pc := 668) (v := 6) dX3_init_668 (by decide) ?_
  refine go_manew2 (pc := 670) (k := 25) (ty := .array .boolean) (by rw [sZZ]; exact q1245) (gOk_m (σ := 25) (n := (Int32.toNatClampNeg 6)) (by decide) (by decide) (fT25 rfl) (gOk_1 (n := Int32.toNatClampNeg 6) (by decide) (by decide))) (gRun_m (σ := 25) (k := 15) (ci := 25) (y := 6) (ty := .boolean) (by decide) (by decide) (by decide) (by decide) (fT25 rfl) (by decide) (by decide) rfl (List.mem_of_getElem? (i := 2) rfl) (gOk_1 (n := Int32.toNatClampNeg 6) (by decide) (by decide)) (gZ1 (y := 6) (by decide) (by decide) (by decide) (by decide)) (by decide) (by decide +kernel) (by decide)) dX3_init_670 fun n67 u151 t_n67 => ?_
  refine go_putR (pc := 674) (n := self) (ci := 3) (k := 84) (t := 25) (r := some n67) pa_X3_251_3 (fun _ => rfl) t_self rfl (Or.inr ⟨_, rfl⟩) (fun n h => by cases h; exact t_n67) dX3_init_674 fun u152 => ?_
  refine go_aload_n (pc := 677) (j := 0) (i := 0) dX3_init_677 rfl rfl ?_
  refine go_bipush (pc := 678) (v := 6) dX3_init_678 (by decide) ?_
  refine go_bipush (pc := 680) (v := 6) dX3_init_680 (by decide) ?_
  refine go_manew2 (pc := 682) (k := 23) (ty := .array .int) (by rw [sII]; exact q1221) (gOk_m (σ := 183) (n := (Int32.toNatClampNeg 6)) (by decide) (by decide) (fT23 rfl) (gOk_1 (n := Int32.toNatClampNeg 6) (by decide) (by decide))) (gRun_m (σ := 183) (k := 13) (ci := 23) (y := 6) (ty := .int) (by decide) (by decide) (by decide) (by decide) (fT23 rfl) (by decide) (by decide) rfl (List.mem_of_getElem? (i := 0) rfl) (gOk_1 (n := Int32.toNatClampNeg 6) (by decide) (by decide)) (gI1 (y := 6) (by decide) (by decide) (by decide) (by decide)) (by decide) (by decide +kernel) (by decide)) dX3_init_682 fun n68 u153 t_n68 => ?_
  refine go_putR (pc := 686) (n := self) (ci := 3) (k := 85) (t := 23) (r := some n68) pa_X3_253_3 (fun _ => rfl) t_self rfl (Or.inr ⟨_, rfl⟩) (fun n h => by cases h; exact t_n68) dX3_init_686 fun u154 => ?_
  refine go_aload_n (pc := 689) (j := 0) (i := 0) dX3_init_689 rfl rfl ?_
  refine go_sipush (pc := 690) (v := 156) dX3_init_690 (by decide) ?_
  refine go_bipush (pc := 693) (v := 6) dX3_init_693 (by decide) ?_
  refine go_manew2 (pc := 695) (k := 23) (ty := .array .int) (by rw [sII]; exact q1221) (gOk_m (σ := 215) (n := (Int32.toNatClampNeg 156)) (by decide) (by decide) (fT23 rfl) (gOk_1 (n := Int32.toNatClampNeg 6) (by decide) (by decide))) (gRun_m (σ := 215) (k := 13) (ci := 23) (y := 156) (ty := .int) (by decide) (by decide) (by decide) (by decide) (fT23 rfl) (by decide) (by decide) rfl (List.mem_of_getElem? (i := 0) rfl) (gOk_1 (n := Int32.toNatClampNeg 6) (by decide) (by decide)) (gI1 (y := 6) (by decide) (by decide) (by decide) (by decide)) (by decide) (by decide +kernel) (by decide)) dX3_init_695 fun n69 u155 t_n69 => ?_
  refine go_putR (pc := 699) (n := self) (ci := 3) (k := 91) (t := 23) (r := some n69) pa_X3_255_3 (fun _ => rfl) t_self rfl (Or.inr ⟨_, rfl⟩) (fun n h => by cases h; exact t_n69) dX3_init_699 fun u156 => ?_
  refine go_aload_n (pc := 702) (j := 0) (i := 0) dX3_init_702 rfl rfl ?_
  refine go_bipush (pc := 703) (v := 8) dX3_init_703 (by decide) ?_
  refine go_newa_int (pc := 705) (σ := 2669) (by decide) (by decide) dX3_init_705 fun n70 u157 t_n70 => ?_
  refine go_putR (pc := 707) (n := self) (ci := 3) (k := 92) (t := 13) (r := some n70) pa_X3_258_3 (fun _ => rfl) t_self rfl (Or.inr ⟨_, rfl⟩) (fun n h => by cases h; exact t_n70) dX3_init_707 fun u158 => ?_
  refine go_aload_n (pc := 710) (j := 0) (i := 0) dX3_init_710 rfl rfl ?_
  refine go_bipush (pc := 711) (v := 8) dX3_init_711 (by decide) ?_
  refine go_newa_int (pc := 713) (σ := 2701) (by decide) (by decide) dX3_init_713 fun n71 u159 t_n71 => ?_
  refine go_putR (pc := 715) (n := self) (ci := 3) (k := 93) (t := 13) (r := some n71) pa_X3_261_3 (fun _ => rfl) t_self rfl (Or.inr ⟨_, rfl⟩) (fun n h => by cases h; exact t_n71) dX3_init_715 fun u160 => ?_
  refine go_aload_n (pc := 718) (j := 0) (i := 0) dX3_init_718 rfl rfl ?_
  refine go_bipush (pc := 719) (v := 8) dX3_init_719 (by decide) ?_
  refine go_newa_int (pc := 721) (σ := 2733) (by decide) (by decide) dX3_init_721 fun n72 u161 t_n72 => ?_
  refine go_putR (pc := 723) (n := self) (ci := 3) (k := 94) (t := 13) (r := some n72) pa_X3_264_3 (fun _ => rfl) t_self rfl (Or.inr ⟨_, rfl⟩) (fun n h => by cases h; exact t_n72) dX3_init_723 fun u162 => ?_
  refine go_aload_n (pc := 726) (j := 0) (i := 0) dX3_init_726 rfl rfl ?_
  refine go_bipush (pc := 727) (v := 8) dX3_init_727 (by decide) ?_
  refine go_newa_int (pc := 729) (σ := 2765) (by decide) (by decide) dX3_init_729 fun n73 u163 t_n73 => ?_
  refine go_putR (pc := 731) (n := self) (ci := 3) (k := 95) (t := 13) (r := some n73) pa_X3_267_3 (fun _ => rfl) t_self rfl (Or.inr ⟨_, rfl⟩) (fun n h => by cases h; exact t_n73) dX3_init_731 fun u164 => ?_
  exact go_vreturn (pc := 734) rfl dX3_init_734

