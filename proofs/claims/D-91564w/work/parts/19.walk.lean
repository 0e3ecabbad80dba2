set_option maxRecDepth 100000
def f_X3_force (self : Nat) (p0 : Int32) (p1 : Int32) (u : zM) : Option (Int32 × zM) := bd (f_X3_in (Int32.toInt64 p0) 0 (Int32.toInt64 ((mI u self 52) - 1)) u) fun v1 u1 => if v1 = 0 then (some ((-1), u1)) else (bd (f_X3_in (Int32.toInt64 p1) (Int32.toInt64 (mI u1 self 0)) 155 u1) fun v2 u2 => if v2 = 0 then (some ((-1), u2)) else (if (mI u2 self 53) = 12 then (some ((-1), u2)) else (lt (mR u2 self 50) fun r1 => oB r1 fun n1 => ix (mI u2 self 53) (mN u2 n1) (lt (sI u2 n1 (xN (mI u2 self 53)) p0) fun u3 => lt (mR u3 self 51) fun r2 => oB r2 fun n2 => ix (mI u3 self 53) (mN u3 n2) (lt (sI u3 n2 (xN (mI u3 self 53)) p1) fun u4 => lt (sI u4 self 53 ((mI u4 self 53) + 1)) fun u5 => some ((mI u5 self 53), u5))))))
set_option maxHeartbeats 4000000 in
theorem ct_X3_force (self : Nat) (p0 : Int32) (p1 : Int32) (t_self : kd self = 3) : zMet yX3_force cX3_force 3 (some .int) 2 25 rvI (obT) [.ref self, .int p0, .int p1] (f_X3_force self p0 p1) := by
  refine zMet_of (A := [(0, .ref self), (1, .int p0), (2, .int p1)]) (B := []) (ini := false) RX3 rfl (by decide +kernel) (fun h => by cases h) (by simp [lg_sl, Value.category]) (by simp [lv_args, Value.category]) rfl (by simp [lv_args, Value.category]) fun u => ?_
  unfold f_X3_force
  refine go_iload_n (pc := 0) (j := 1) (i := 1) dX3_force_0 rfl rfl ?_
  refine go_i2l (pc := 1) dX3_force_1 ?_
  refine go_lconst (pc := 2) (v := 0) dX3_force_2 (by decide) ?_
  refine go_aload_n (pc := 3) (j := 0) (i := 0) dX3_force_3 rfl rfl ?_
  refine go_getI (pc := 4) (n := self) (ci := 3) (k := 52) fa_X3_413_3 t_self rfl dX3_force_4 ?_
  refine go_iconst (pc := 7) (v := 1) dX3_force_7 (by decide) ?_
  refine go_isub (pc := 8) dX3_force_8 ?_
  refine go_i2l (pc := 9) dX3_force_9 ?_
  refine go_callSI (pc := 10) (ct_X3_in (Int32.toInt64 p0) 0 (Int32.toInt64 ((mI u self 52) - 1))) lk_X3_274 rfl ⟨by decide, by decide⟩ (Nat.le_of_ble_eq_true rfl) dX3_force_10 rfl fun v1 u1 => ?_
  refine go_if_eq (pc := 13) (tgt := 41) dX3_force_13 (by decide) (fun h1 => ?_) (fun h1 => ?_)
  · refine go_iconst (pc := 41) (v := (-1)) dX3_force_41 (by decide) ?_
    exact go_ireturn (pc := 42) rfl dX3_force_42
  · refine go_iload_n (pc := 16) (j := 2) (i := 2) dX3_force_16 rfl rfl ?_
    refine go_i2l (pc := 17) dX3_force_17 ?_
    refine go_aload_n (pc := 18) (j := 0) (i := 0) dX3_force_18 rfl rfl ?_
    refine go_getI (pc := 19) (n := self) (ci := 3) (k := 0) fa_X3_286_3 t_self rfl dX3_force_19 ?_
    refine go_i2l (pc := 22) dX3_force_22 ?_
    refine go_ldc2 (pc := 23) (v := 155) dX3_force_23 q1702 ?_
    refine go_callSI (pc := 26) (ct_X3_in (Int32.toInt64 p1) (Int32.toInt64 (mI u1 self 0)) 155) lk_X3_274 rfl ⟨by decide, by decide⟩ (Nat.le_of_ble_eq_true rfl) dX3_force_26 rfl fun v2 u2 => ?_
    refine go_if_eq (pc := 29) (tgt := 41) dX3_force_29 (by decide) (fun h2 => ?_) (fun h2 => ?_)
    · refine go_iconst (pc := 41) (v := (-1)) dX3_force_41 (by decide) ?_
      exact go_ireturn (pc := 42) rfl dX3_force_42
    · refine go_aload_n (pc := 32) (j := 0) (i := 0) dX3_force_32 rfl rfl ?_
      refine go_getI (pc := 33) (n := self) (ci := 3) (k := 53) fa_X3_418_3 t_self rfl dX3_force_33 ?_
      refine go_bipush (pc := 36) (v := 12) dX3_force_36 (by decide) ?_
      refine go_icmp_ne (pc := 38) (tgt := 43) dX3_force_38 (by decide) (fun h3 => ?_) (fun h3 => ?_)
      · refine go_iconst (pc := 41) (v := (-1)) dX3_force_41 (by decide) ?_
        exact go_ireturn (pc := 42) rfl dX3_force_42
      · refine go_aload_n (pc := 43) (j := 0) (i := 0) dX3_force_43 rfl rfl ?_
        refine go_getR (pc := 44) (n := self) (ci := 3) (k := 50) (t := 13) fa_X3_133_3 t_self rfl dX3_force_44 fun r1 t_r1 => ?_
        refine go_aload_n (pc := 47) (j := 0) (i := 0) dX3_force_47 rfl rfl ?_
        refine go_getI (pc := 48) (n := self) (ci := 3) (k := 53) fa_X3_418_3 t_self rfl dX3_force_48 ?_
        refine go_iload_n (pc := 51) (j := 1) (i := 1) dX3_force_51 rfl rfl ?_
        refine go_oB fun n1 e_n1 => ?_
        have t_n1 := t_r1 n1 e_n1
        subst e_n1
        refine go_iast (pc := 52) t_n1 dX3_force_52 fun u3 => ?_
        refine go_aload_n (pc := 53) (j := 0) (i := 0) dX3_force_53 rfl rfl ?_
        refine go_getR (pc := 54) (n := self) (ci := 3) (k := 51) (t := 13) fa_X3_136_3 t_self rfl dX3_force_54 fun r2 t_r2 => ?_
        refine go_aload_n (pc := 57) (j := 0) (i := 0) dX3_force_57 rfl rfl ?_
        refine go_getI (pc := 58) (n := self) (ci := 3) (k := 53) fa_X3_418_3 t_self rfl dX3_force_58 ?_
        refine go_iload_n (pc := 61) (j := 2) (i := 2) dX3_force_61 rfl rfl ?_
        refine go_oB fun n2 e_n2 => ?_
        have t_n2 := t_r2 n2 e_n2
        subst e_n2
        refine go_iast (pc := 62) t_n2 dX3_force_62 fun u4 => ?_
        refine go_aload_n (pc := 63) (j := 0) (i := 0) dX3_force_63 rfl rfl ?_
        refine go_dupA (pc := 64) dX3_force_64 ?_
        refine go_getI (pc := 65) (n := self) (ci := 3) (k := 53) fa_X3_418_3 t_self rfl dX3_force_65 ?_
        refine go_iconst (pc := 68) (v := 1) dX3_force_68 (by decide) ?_
        refine go_iadd (pc := 69) dX3_force_69 ?_
        refine go_putI (pc := 70) (n := self) (ci := 3) (k := 53) (v := ((mI u4 self 53) + 1)) pa_X3_418_3 (fun h => by cases h) t_self rfl zKeep_int dX3_force_70 fun u5 => ?_
        refine go_aload_n (pc := 73) (j := 0) (i := 0) dX3_force_73 rfl rfl ?_
        refine go_getI (pc := 74) (n := self) (ci := 3) (k := 53) fa_X3_418_3 t_self rfl dX3_force_74 ?_
        exact go_ireturn (pc := 77) rfl dX3_force_77

def f_X3_sheetFor_L5 (x0 : Nat) (x1 : Int32) (x2 : Int32) (k72 : Int32 → zM → Option (Int32 × zM)) : Nat → Int32 → Int32 → zM → Option (Int32 × zM)
  | 0, _, _, _ => none
  | n + 1, x3, x4, u => if (mI u x0 53) ≤ x4 then (k72 x3 u) else (lt (mR u x0 51) fun r1 => oB r1 fun n1 => ix x4 (mN u n1) (lt (fun (z1 : Int32) (u1 : zM) => f_X3_sheetFor_L5 x0 x1 x2 k72 n z1 (x4 + 1) u1) fun j1 => if x2 < (mI u n1 (xN x4)) then (j1 x3 u) else (lt (mR u x0 49) fun r2 => lt (mR u x0 50) fun r3 => oB r3 fun n2 => ix x4 (mN u n2) (oB r2 fun n3 => ix (mI u n2 (xN x4)) (mN u n3) (lt (mR u n3 (xN (mI u n2 (xN x4)))) fun r4 => oB r4 fun n4 => ix x1 (mN u n4) (if (mI u n4 (xN x1)) ≤ 0 then (j1 x3 u) else (lt (fun (u2 : zM) => j1 x4 u2) fun j2 => if x3 = (-1) then (j2 u) else (lt (mR u x0 51) fun r5 => oB r5 fun n5 => ix x4 (mN u n5) (lt (mR u x0 51) fun r6 => oB r6 fun n6 => ix x3 (mN u n6) (if (mI u n5 (xN x4)) < (mI u n6 (xN x3)) then (j1 x3 u) else (j2 u)))))))))))
section
variable {c0 s0 : Nat} {tbv : List ExceptionTableEntry}
set_option maxHeartbeats 4000000 in
theorem g_X3_sheetFor_L5 (x0 : Nat) (x1 : Int32) (x2 : Int32) (k72 : Int32 → zM → Option (Int32 × zM)) (t_x0 : kd x0 = 3) (hk72 : ∀ (x3 : Int32) (u : zM), Go RX3 cX3_sheetFor 5 (some .int) false 1 0 [] (obT) (zQ rvI) c0 s0 72 [(0, .ref x0), (3, .int x3)] [] [] u (k72 x3 u)) : ∀ (n : Nat) (x3 : Int32) (x4 : Int32) (u : zM), Go RX3 cX3_sheetFor 5 (some .int) false 1 0 [] (obT) (zQ rvI) c0 s0 5 [(0, .ref x0), (1, .int x1), (2, .int x2), (3, .int x3), (4, .int x4)] [] [] u (f_X3_sheetFor_L5 x0 x1 x2 k72 n x3 x4 u) := by
  intro n
  induction n with
  | zero => intros; exact go_none
  | succ n ih =>
    intro x3 x4 u
    unfold f_X3_sheetFor_L5
    refine go_iload (pc := 5) (i := 4) dX3_sheetFor_5 rfl ?_
    refine go_aload_n (pc := 7) (j := 0) (i := 0) dX3_sheetFor_7 rfl rfl ?_
    refine go_getI (pc := 8) (n := x0) (ci := 3) (k := 53) fa_X3_418_3 t_x0 rfl dX3_sheetFor_8 ?_
    refine go_icmp_ge (pc := 11) (tgt := 72) dX3_sheetFor_11 (by decide) (fun h1 => ?_) (fun h1 => ?_)
    · exact go_weak (A' := [(0, .ref x0), (3, .int x3)]) (B' := []) ⟨rfl, rfl, trivial⟩ rfl (fun q h => by cases h) (hk72 x3 u)
    · refine go_aload_n (pc := 14) (j := 0) (i := 0) dX3_sheetFor_14 rfl rfl ?_
      refine go_getR (pc := 15) (n := x0) (ci := 3) (k := 51) (t := 13) fa_X3_136_3 t_x0 rfl dX3_sheetFor_15 fun r1 t_r1 => ?_
      refine go_iload (pc := 18) (i := 4) dX3_sheetFor_18 rfl ?_
      refine go_oB fun n1 e_n1 => ?_
      have t_n1 := t_r1 n1 e_n1
      subst e_n1
      refine go_iald (pc := 20) t_n1 dX3_sheetFor_20 ?_
      refine go_iload_n (pc := 21) (j := 2) (i := 2) dX3_sheetFor_21 rfl rfl ?_
      refine go_join1 (pcx := 66) (α1 := Int32) (fun z1 => [(0, .ref x0), (1, .int x1), (2, .int x2), (3, .int z1), (4, .int x4)]) (fun z1 => []) (fun z1 => []) (fun z1 => True) (fun z1 u1 _ => ?_) (fun j1 hj1 => ?_)
      · refine go_iinc (pc := 66) (i := 4) (w := 1) (A' := [(0, .ref x0), (1, .int x1), (2, .int x2), (3, .int z1), (4, .int (x4 + 1))]) rfl (by decide) (by decide) rfl rfl rfl dX3_sheetFor_66 ?_
        refine go_goto (pc := 69) (tgt := 5) dX3_sheetFor_69 (by decide) ?_
        exact go_weak (A' := [(0, .ref x0), (1, .int x1), (2, .int x2), (3, .int z1), (4, .int (x4 + 1))]) (B' := []) ⟨rfl, rfl, rfl, rfl, rfl, trivial⟩ rfl (fun q h => by cases h) (ih z1 (x4 + 1) u1)
      · refine go_icmp_gt (pc := 22) (tgt := 66) dX3_sheetFor_22 (by decide) (fun h2 => ?_) (fun h2 => ?_)
        · exact go_weak (A' := [(0, .ref x0), (1, .int x1), (2, .int x2), (3, .int x3), (4, .int x4)]) (B' := []) ⟨rfl, rfl, rfl, rfl, rfl, trivial⟩ rfl (fun q h => by cases h) (hj1 x3 u trivial)
        · refine go_aload_n (pc := 25) (j := 0) (i := 0) dX3_sheetFor_25 rfl rfl ?_
          refine go_getR (pc := 26) (n := x0) (ci := 3) (k := 49) (t := 23) fa_X3_130_3 t_x0 rfl dX3_sheetFor_26 fun r2 t_r2 => ?_
          refine go_aload_n (pc := 29) (j := 0) (i := 0) dX3_sheetFor_29 rfl rfl ?_
          refine go_getR (pc := 30) (n := x0) (ci := 3) (k := 50) (t := 13) fa_X3_133_3 t_x0 rfl dX3_sheetFor_30 fun r3 t_r3 => ?_
          refine go_iload (pc := 33) (i := 4) dX3_sheetFor_33 rfl ?_
          refine go_oB fun n2 e_n2 => ?_
          have t_n2 := t_r3 n2 e_n2
          subst e_n2
          refine go_iald (pc := 35) t_n2 dX3_sheetFor_35 ?_
          refine go_oB fun n3 e_n3 => ?_
          have t_n3 := t_r2 n3 e_n3
          subst e_n3
          refine go_aald (pc := 36) (n := n3) (ci := 23) (t := 13) (by decide) (by decide) t_n3 rfl dX3_sheetFor_36 fun r4 t_r4 => ?_
          refine go_iload_n (pc := 37) (j := 1) (i := 1) dX3_sheetFor_37 rfl rfl ?_
          refine go_oB fun n4 e_n4 => ?_
          have t_n4 := t_r4 n4 e_n4
          subst e_n4
          refine go_iald (pc := 38) t_n4 dX3_sheetFor_38 ?_
          refine go_if_le (pc := 39) (tgt := 66) dX3_sheetFor_39 (by decide) (fun h3 => ?_) (fun h3 => ?_)
          · exact go_weak (A' := [(0, .ref x0), (1, .int x1), (2, .int x2), (3, .int x3), (4, .int x4)]) (B' := []) ⟨rfl, rfl, rfl, rfl, rfl, trivial⟩ rfl (fun q h => by cases h) (hj1 x3 u trivial)
          · refine go_iload_n (pc := 42) (j := 3) (i := 3) dX3_sheetFor_42 rfl rfl ?_
            refine go_iconst (pc := 43) (v := (-1)) dX3_sheetFor_43 (by decide) ?_
            refine go_join0 (pcx := 63) ([(0, .ref x0), (1, .int x1), (2, .int x2), (4, .int x4)]) ([]) ([]) (True) (fun u2 _ => ?_) (fun j2 hj2 => ?_)
            · refine go_iload (pc := 63) (i := 4) dX3_sheetFor_63 rfl ?_
              refine go_istore_n (pc := 65) (j := 3) (i := 3) (A' := [(0, .ref x0), (1, .int x1), (2, .int x2), (4, .int x4), (3, .int x4)]) rfl (by decide) rfl rfl rfl dX3_sheetFor_65 ?_
              exact go_weak (A' := [(0, .ref x0), (1, .int x1), (2, .int x2), (3, .int x4), (4, .int x4)]) (B' := []) ⟨rfl, rfl, rfl, rfl, rfl, trivial⟩ rfl (fun q h => by cases h) (hj1 x4 u2 trivial)
            · refine go_icmp_eq (pc := 44) (tgt := 63) dX3_sheetFor_44 (by decide) (fun h4 => ?_) (fun h4 => ?_)
              · exact go_weak (A' := [(0, .ref x0), (1, .int x1), (2, .int x2), (4, .int x4)]) (B' := []) ⟨rfl, rfl, rfl, rfl, trivial⟩ rfl (fun q h => by cases h) (hj2 u trivial)
              · refine go_aload_n (pc := 47) (j := 0) (i := 0) dX3_sheetFor_47 rfl rfl ?_
                refine go_getR (pc := 48) (n := x0) (ci := 3) (k := 51) (t := 13) fa_X3_136_3 t_x0 rfl dX3_sheetFor_48 fun r5 t_r5 => ?_
                refine go_iload (pc := 51) (i := 4) dX3_sheetFor_51 rfl ?_
                refine go_oB fun n5 e_n5 => ?_
                have t_n5 := t_r5 n5 e_n5
                subst e_n5
                refine go_iald (pc := 53) t_n5 dX3_sheetFor_53 ?_
                refine go_aload_n (pc := 54) (j := 0) (i := 0) dX3_sheetFor_54 rfl rfl ?_
                refine go_getR (pc := 55) (n := x0) (ci := 3) (k := 51) (t := 13) fa_X3_136_3 t_x0 rfl dX3_sheetFor_55 fun r6 t_r6 => ?_
                refine go_iload_n (pc := 58) (j := 3) (i := 3) dX3_sheetFor_58 rfl rfl ?_
                refine go_oB fun n6 e_n6 => ?_
                have t_n6 := t_r6 n6 e_n6
                subst e_n6
                refine go_iald (pc := 59) t_n6 dX3_sheetFor_59 ?_
                refine go_icmp_lt (pc := 60) (tgt := 66) dX3_sheetFor_60 (by decide) (fun h5 => ?_) (fun h5 => ?_)
                · exact go_weak (A' := [(0, .ref x0), (1, .int x1), (2, .int x2), (3, .int x3), (4, .int x4)]) (B' := []) ⟨rfl, rfl, rfl, rfl, rfl, trivial⟩ rfl (fun q h => by cases h) (hj1 x3 u trivial)
                · exact go_weak (A' := [(0, .ref x0), (1, .int x1), (2, .int x2), (4, .int x4)]) (B' := []) ⟨rfl, rfl, rfl, rfl, trivial⟩ rfl (fun q h => by cases h) (hj2 u trivial)
end
def f_X3_sheetFor (self : Nat) (p0 : Int32) (p1 : Int32) (u : zM) : Option (Int32 × zM) := f_X3_sheetFor_L5 self p0 p1 (fun z2 u3 => if z2 = (-1) then (some ((-1), u3)) else (lt (mR u3 self 50) fun r7 => oB r7 fun n7 => ix z2 (mN u3 n7) (some ((mI u3 n7 (xN z2)), u3)))) zFu (-1) 0 u
set_option maxHeartbeats 4000000 in
theorem ct_X3_sheetFor (self : Nat) (p0 : Int32) (p1 : Int32) (t_self : kd self = 3) : zMet yX3_sheetFor cX3_sheetFor 5 (some .int) 1 0 rvI (obT) [.ref self, .int p0, .int p1] (f_X3_sheetFor self p0 p1) := by
  refine zMet_of (A := [(0, .ref self), (1, .int p0), (2, .int p1)]) (B := []) (ini := false) RX3 rfl (by decide +kernel) (fun h => by cases h) (by simp [lg_sl, Value.category]) (by simp [lv_args, Value.category]) rfl (by simp [lv_args, Value.category]) fun u => ?_
  unfold f_X3_sheetFor
  refine go_iconst (pc := 0) (v := (-1)) dX3_sheetFor_0 (by decide) ?_
  refine go_istore_n (pc := 1) (j := 3) (i := 3) (A' := [(0, .ref self), (1, .int p0), (2, .int p1), (3, .int (-1))]) rfl (by decide) rfl rfl rfl dX3_sheetFor_1 ?_
  refine go_iconst (pc := 2) (v := 0) dX3_sheetFor_2 (by decide) ?_
  refine go_istore (pc := 3) (i := 4) (A' := [(0, .ref self), (1, .int p0), (2, .int p1), (3, .int (-1)), (4, .int 0)]) (by decide) rfl rfl rfl dX3_sheetFor_3 ?_
  refine go_weak (A' := [(0, .ref self), (1, .int p0), (2, .int p1), (3, .int (-1)), (4, .int 0)]) (B' := []) ⟨rfl, rfl, rfl, rfl, rfl, trivial⟩ rfl (fun q h => by cases h) (g_X3_sheetFor_L5 self p0 p1 _ t_self ?_ zFu (-1) 0 u)
  · intro z2 u3
    refine go_iload_n (pc := 72) (j := 3) (i := 3) dX3_sheetFor_72 rfl rfl ?_
    refine go_iconst (pc := 73) (v := (-1)) dX3_sheetFor_73 (by decide) ?_
    refine go_icmp_ne (pc := 74) (tgt := 81) dX3_sheetFor_74 (by decide) (fun h6 => ?_) (fun h6 => ?_)
    · refine go_iconst (pc := 77) (v := (-1)) dX3_sheetFor_77 (by decide) ?_
      refine go_goto (pc := 78) (tgt := 87) dX3_sheetFor_78 (by decide) ?_
      exact go_ireturn (pc := 87) rfl dX3_sheetFor_87
    · refine go_aload_n (pc := 81) (j := 0) (i := 0) dX3_sheetFor_81 rfl rfl ?_
      refine go_getR (pc := 82) (n := self) (ci := 3) (k := 50) (t := 13) fa_X3_133_3 t_self rfl dX3_sheetFor_82 fun r7 t_r7 => ?_
      refine go_iload_n (pc := 85) (j := 3) (i := 3) dX3_sheetFor_85 rfl rfl ?_
      refine go_oB fun n7 e_n7 => ?_
      have t_n7 := t_r7 n7 e_n7
      subst e_n7
      refine go_iald (pc := 86) t_n7 dX3_sheetFor_86 ?_
      exact go_ireturn (pc := 87) rfl dX3_sheetFor_87

def f_X3_why (self : Nat) (p0 : Int32) (p1 : Int32) (u : zM) : Option (Int32 × zM) := bd (f_X3_in (Int32.toInt64 p0) 0 4 u) fun v1 u1 => if v1 = 0 then (some ((-1), u1)) else (bd (f_X3_in (Int32.toInt64 p1) 0 155 u1) fun v2 u2 => if v2 = 0 then (some ((-1), u2)) else (bd (f_X3_sheetFor self p0 p1 u2) fun v3 u3 => some (v3, u3)))
set_option maxHeartbeats 4000000 in
theorem ct_X3_why (self : Nat) (p0 : Int32) (p1 : Int32) (t_self : kd self = 3) : zMet yX3_why cX3_why 3 (some .int) 2 25 rvI (obT) [.ref self, .int p0, .int p1] (f_X3_why self p0 p1) := by
  refine zMet_of (A := [(0, .ref self), (1, .int p0), (2, .int p1)]) (B := []) (ini := false) RX3 rfl (by decide +kernel) (fun h => by cases h) (by simp [lg_sl, Value.category]) (by simp [lv_args, Value.category]) rfl (by simp [lv_args, Value.category]) fun u => ?_
  unfold f_X3_why
  refine go_iload_n (pc := 0) (j := 1) (i := 1) dX3_why_0 rfl rfl ?_
  refine go_i2l (pc := 1) dX3_why_1 ?_
  refine go_lconst (pc := 2) (v := 0) dX3_why_2 (by decide) ?_
  refine go_ldc2 (pc := 3) (v := 4) dX3_why_3 q1583 ?_
  refine go_callSI (pc := 6) (ct_X3_in (Int32.toInt64 p0) 0 4) lk_X3_274 rfl ⟨by decide, by decide⟩ (Nat.le_of_ble_eq_true rfl) dX3_why_6 rfl fun v1 u1 => ?_
  refine go_if_eq (pc := 9) (tgt := 33) dX3_why_9 (by decide) (fun h1 => ?_) (fun h1 => ?_)
  · refine go_iconst (pc := 33) (v := (-1)) dX3_why_33 (by decide) ?_
    exact go_ireturn (pc := 34) rfl dX3_why_34
  · refine go_iload_n (pc := 12) (j := 2) (i := 2) dX3_why_12 rfl rfl ?_
    refine go_i2l (pc := 13) dX3_why_13 ?_
    refine go_lconst (pc := 14) (v := 0) dX3_why_14 (by decide) ?_
    refine go_ldc2 (pc := 15) (v := 155) dX3_why_15 q1702 ?_
    refine go_callSI (pc := 18) (ct_X3_in (Int32.toInt64 p1) 0 155) lk_X3_274 rfl ⟨by decide, by decide⟩ (Nat.le_of_ble_eq_true rfl) dX3_why_18 rfl fun v2 u2 => ?_
    refine go_if_eq (pc := 21) (tgt := 33) dX3_why_21 (by decide) (fun h2 => ?_) (fun h2 => ?_)
    · refine go_iconst (pc := 33) (v := (-1)) dX3_why_33 (by decide) ?_
      exact go_ireturn (pc := 34) rfl dX3_why_34
    · refine go_aload_n (pc := 24) (j := 0) (i := 0) dX3_why_24 rfl rfl ?_
      refine go_iload_n (pc := 25) (j := 1) (i := 1) dX3_why_25 rfl rfl ?_
      refine go_iload_n (pc := 26) (j := 2) (i := 2) dX3_why_26 rfl rfl ?_
      refine go_callVI (pc := 27) (ci := 3) (ct_X3_sheetFor self p0 p1 t_self) lk_X3_421 rfl rfl rfl (by decide) t_self ⟨by decide, by decide⟩ (Nat.le_of_ble_eq_true rfl) dX3_why_27 rfl fun v3 u3 => ?_
      refine go_goto (pc := 30) (tgt := 34) dX3_why_30 (by decide) ?_
      exact go_ireturn (pc := 34) rfl dX3_why_34

def f_X3_isLot (self : Nat) (p0 : Int32) (u : zM) : Option (Int32 × zM) := bd (f_X3_in (Int32.toInt64 p0) 0 (Int32.toInt64 ((mI u self 64) - 1)) u) fun v1 u1 => gb v1 (some (v1, u1))
set_option maxHeartbeats 4000000 in
theorem ct_X3_isLot (self : Nat) (p0 : Int32) (t_self : kd self = 3) : zMet yX3_isLot cX3_isLot 2 (some .boolean) 2 25 rvI (obT) [.ref self, .int p0] (f_X3_isLot self p0) := by
  refine zMet_of (A := [(0, .ref self), (1, .int p0)]) (B := []) (ini := false) RX3 rfl (by decide +kernel) (fun h => by cases h) (by simp [lg_sl, Value.category]) (by simp [lv_args, Value.category]) rfl (by simp [lv_args, Value.category]) fun u => ?_
  unfold f_X3_isLot
  refine go_iload_n (pc := 0) (j := 1) (i := 1) dX3_isLot_0 rfl rfl ?_
  refine go_i2l (pc := 1) dX3_isLot_1 ?_
  refine go_lconst (pc := 2) (v := 0) dX3_isLot_2 (by decide) ?_
  refine go_aload_n (pc := 3) (j := 0) (i := 0) dX3_isLot_3 rfl rfl ?_
  refine go_getI (pc := 4) (n := self) (ci := 3) (k := 64) fa_X3_451_3 t_self rfl dX3_isLot_4 ?_
  refine go_iconst (pc := 7) (v := 1) dX3_isLot_7 (by decide) ?_
  refine go_isub (pc := 8) dX3_isLot_8 ?_
  refine go_i2l (pc := 9) dX3_isLot_9 ?_
  refine go_callSI (pc := 10) (ct_X3_in (Int32.toInt64 p0) 0 (Int32.toInt64 ((mI u self 64) - 1))) lk_X3_274 rfl ⟨by decide, by decide⟩ (Nat.le_of_ble_eq_true rfl) dX3_isLot_10 rfl fun v1 u1 => ?_
  exact go_zreturn (pc := 13) rfl dX3_isLot_13

def f_X3_lot (self : Nat) (p0 : Int32) (p1 : Int32) (u : zM) : Option (Int32 × zM) := bd (f_X3_isLot self p0 u) fun v1 u1 => if v1 = 0 then (some ((-1), u1)) else (if p1 = 0 then (lt (mR u1 self 58) fun r1 => oB r1 fun n1 => ix p0 (mN u1 n1) (some ((mI u1 n1 (xN p0)), u1))) else (if p1 = 1 then (lt (mR u1 self 59) fun r2 => oB r2 fun n2 => ix p0 (mN u1 n2) (some ((mI u1 n2 (xN p0)), u1))) else (if p1 = 2 then (lt (mR u1 self 60) fun r3 => oB r3 fun n3 => ix p0 (mN u1 n3) (some ((mI u1 n3 (xN p0)), u1))) else (if p1 = 3 then (lt (mR u1 self 61) fun r4 => oB r4 fun n4 => ix p0 (mN u1 n4) (some ((mI u1 n4 (xN p0)), u1))) else (if p1 = 4 then (lt (mR u1 self 62) fun r5 => oB r5 fun n5 => ix p0 (mN u1 n5) (some ((mI u1 n5 (xN p0)), u1))) else (if p1 = 5 then (lt (mR u1 self 63) fun r6 => oB r6 fun n6 => ix p0 (mN u1 n6) (some ((mI u1 n6 (xN p0)), u1))) else (some ((-1), u1))))))))
set_option maxHeartbeats 4000000 in
theorem ct_X3_lot (self : Nat) (p0 : Int32) (p1 : Int32) (t_self : kd self = 3) : zMet yX3_lot cX3_lot 3 (some .int) 3 46 rvI (obT) [.ref self, .int p0, .int p1] (f_X3_lot self p0 p1) := by
  refine zMet_of (A := [(0, .ref self), (1, .int p0), (2, .int p1)]) (B := []) (ini := false) RX3 rfl (by decide +kernel) (fun h => by cases h) (by simp [lg_sl, Value.category]) (by simp [lv_args, Value.category]) rfl (by simp [lv_args, Value.category]) fun u => ?_
  unfold f_X3_lot
  refine go_aload_n (pc := 0) (j := 0) (i := 0) dX3_lot_0 rfl rfl ?_
  refine go_iload_n (pc := 1) (j := 1) (i := 1) dX3_lot_1 rfl rfl ?_
  refine go_callVI (pc := 2) (ci := 3) (ct_X3_isLot self p0 t_self) lk_X3_466 rfl rfl rfl (by decide) t_self ⟨by decide, by decide⟩ (Nat.le_of_ble_eq_true rfl) dX3_lot_2 rfl fun v1 u1 => ?_
  refine go_if_ne (pc := 5) (tgt := 10) dX3_lot_5 (by decide) (fun h1 => ?_) (fun h1 => ?_)
  · refine go_iconst (pc := 8) (v := (-1)) dX3_lot_8 (by decide) ?_
    exact go_ireturn (pc := 9) rfl dX3_lot_9
  · refine go_iload_n (pc := 10) (j := 2) (i := 2) dX3_lot_10 rfl rfl ?_
    refine go_if (fun h2 => ?_) (fun h2 => ?_)
    · refine go_tableIn (pc := 11) (tgt := 48) 0 h2 dX3_lot_11 (by decide) (by decide) rfl (by decide) ?_
      refine go_aload_n (pc := 48) (j := 0) (i := 0) dX3_lot_48 rfl rfl ?_
      refine go_getR (pc := 49) (n := self) (ci := 3) (k := 58) (t := 13) fa_X3_185_3 t_self rfl dX3_lot_49 fun r1 t_r1 => ?_
      refine go_iload_n (pc := 52) (j := 1) (i := 1) dX3_lot_52 rfl rfl ?_
      refine go_oB fun n1 e_n1 => ?_
      have t_n1 := t_r1 n1 e_n1
      subst e_n1
      refine go_iald (pc := 53) t_n1 dX3_lot_53 ?_
      exact go_ireturn (pc := 54) rfl dX3_lot_54
    refine go_if (fun h3 => ?_) (fun h3 => ?_)
    · refine go_tableIn (pc := 11) (tgt := 55) 1 h3 dX3_lot_11 (by decide) (by decide) rfl (by decide) ?_
      refine go_aload_n (pc := 55) (j := 0) (i := 0) dX3_lot_55 rfl rfl ?_
      refine go_getR (pc := 56) (n := self) (ci := 3) (k := 59) (t := 13) fa_X3_188_3 t_self rfl dX3_lot_56 fun r2 t_r2 => ?_
      refine go_iload_n (pc := 59) (j := 1) (i := 1) dX3_lot_59 rfl rfl ?_
      refine go_oB fun n2 e_n2 => ?_
      have t_n2 := t_r2 n2 e_n2
      subst e_n2
      refine go_iald (pc := 60) t_n2 dX3_lot_60 ?_
      exact go_ireturn (pc := 61) rfl dX3_lot_61
    refine go_if (fun h4 => ?_) (fun h4 => ?_)
    · refine go_tableIn (pc := 11) (tgt := 62) 2 h4 dX3_lot_11 (by decide) (by decide) rfl (by decide) ?_
      refine go_aload_n (pc := 62) (j := 0) (i := 0) dX3_lot_62 rfl rfl ?_
      refine go_getR (pc := 63) (n := self) (ci := 3) (k := 60) (t := 13) fa_X3_191_3 t_self rfl dX3_lot_63 fun r3 t_r3 => ?_
      refine go_iload_n (pc := 66) (j := 1) (i := 1) dX3_lot_66 rfl rfl ?_
      refine go_oB fun n3 e_n3 => ?_
      have t_n3 := t_r3 n3 e_n3
      subst e_n3
      refine go_iald (pc := 67) t_n3 dX3_lot_67 ?_
      exact go_ireturn (pc := 68) rfl dX3_lot_68
    refine go_if (fun h5 => ?_) (fun h5 => ?_)
    · refine go_tableIn (pc := 11) (tgt := 69) 3 h5 dX3_lot_11 (by decide) (by decide) rfl (by decide) ?_
      refine go_aload_n (pc := 69) (j := 0) (i := 0) dX3_lot_69 rfl rfl ?_
      refine go_getR (pc := 70) (n := self) (ci := 3) (k := 61) (t := 13) fa_X3_194_3 t_self rfl dX3_lot_70 fun r4 t_r4 => ?_
      refine go_iload_n (pc := 73) (j := 1) (i := 1) dX3_lot_73 rfl rfl ?_
      refine go_oB fun n4 e_n4 => ?_
      have t_n4 := t_r4 n4 e_n4
      subst e_n4
      refine go_iald (pc := 74) t_n4 dX3_lot_74 ?_
      exact go_ireturn (pc := 75) rfl dX3_lot_75
    refine go_if (fun h6 => ?_) (fun h6 => ?_)
    · refine go_tableIn (pc := 11) (tgt := 76) 4 h6 dX3_lot_11 (by decide) (by decide) rfl (by decide) ?_
      refine go_aload_n (pc := 76) (j := 0) (i := 0) dX3_lot_76 rfl rfl ?_
      refine go_getR (pc := 77) (n := self) (ci := 3) (k := 62) (t := 13) fa_X3_197_3 t_self rfl dX3_lot_77 fun r5 t_r5 => ?_
      refine go_iload_n (pc := 80) (j := 1) (i := 1) dX3_lot_80 rfl rfl ?_
      refine go_oB fun n5 e_n5 => ?_
      have t_n5 := t_r5 n5 e_n5
      subst e_n5
      refine go_iald (pc := 81) t_n5 dX3_lot_81 ?_
      exact go_ireturn (pc := 82) rfl dX3_lot_82
    refine go_if (fun h7 => ?_) (fun h7 => ?_)
    · refine go_tableIn (pc := 11) (tgt := 83) 5 h7 dX3_lot_11 (by decide) (by decide) rfl (by decide) ?_
      refine go_aload_n (pc := 83) (j := 0) (i := 0) dX3_lot_83 rfl rfl ?_
      refine go_getR (pc := 84) (n := self) (ci := 3) (k := 63) (t := 13) fa_X3_200_3 t_self rfl dX3_lot_84 fun r6 t_r6 => ?_
      refine go_iload_n (pc := 87) (j := 1) (i := 1) dX3_lot_87 rfl rfl ?_
      refine go_oB fun n6 e_n6 => ?_
      have t_n6 := t_r6 n6 e_n6
      subst e_n6
      refine go_iald (pc := 88) t_n6 dX3_lot_88 ?_
      exact go_ireturn (pc := 89) rfl dX3_lot_89
    refine go_tableD (pc := 11) (x := p1) (tgt := 90) dX3_lot_11 (by decide) (fun a b => ?_) ?_
    · rcases (show Int32.toInt p1 = 0 ∨ Int32.toInt p1 = 1 ∨ Int32.toInt p1 = 2 ∨ Int32.toInt p1 = 3 ∨ Int32.toInt p1 = 4 ∨ Int32.toInt p1 = 5 by omega) with e | e | e | e | e | e
      · exact absurd (sw_eq (v := 0) (e.trans (by decide))) h2
      · exact absurd (sw_eq (v := 1) (e.trans (by decide))) h3
      · exact absurd (sw_eq (v := 2) (e.trans (by decide))) h4
      · exact absurd (sw_eq (v := 3) (e.trans (by decide))) h5
      · exact absurd (sw_eq (v := 4) (e.trans (by decide))) h6
      · exact absurd (sw_eq (v := 5) (e.trans (by decide))) h7
    · refine go_iconst (pc := 90) (v := (-1)) dX3_lot_90 (by decide) ?_
      exact go_ireturn (pc := 91) rfl dX3_lot_91

def f_X3_owing (self : Nat) (p0 : Int32) (u : zM) : Option (Int32 × zM) := lt (mR u self 34) fun r1 => oB r1 fun n1 => ix p0 (mN u n1) (lt (mR u self 35) fun r2 => oB r2 fun n2 => ix p0 (mN u n2) (some ((Int64.toInt32 ((mL u n1 (xN p0)) - (Int32.toInt64 (mI u n2 (xN p0))))), u)))
set_option maxHeartbeats 4000000 in
theorem ct_X3_owing (self : Nat) (p0 : Int32) (t_self : kd self = 3) : zMet yX3_owing cX3_owing 4 (some .int) 1 0 rvI (obT) [.ref self, .int p0] (f_X3_owing self p0) := by
  refine zMet_of (A := [(0, .ref self), (1, .int p0)]) (B := []) (ini := false) RX3 rfl (by decide +kernel) (fun h => by cases h) (by simp [lg_sl, Value.category]) (by simp [lv_args, Value.category]) rfl (by simp [lv_args, Value.category]) fun u => ?_
  unfold f_X3_owing
  refine go_aload_n (pc := 0) (j := 0) (i := 0) dX3_owing_0 rfl rfl ?_
  refine go_getR (pc := 1) (n := self) (ci := 3) (k := 34) (t := 16) fa_X3_105_3 t_self rfl dX3_owing_1 fun r1 t_r1 => ?_
  refine go_iload_n (pc := 4) (j := 1) (i := 1) dX3_owing_4 rfl rfl ?_
  refine go_oB fun n1 e_n1 => ?_
  have t_n1 := t_r1 n1 e_n1
  subst e_n1
  refine go_lald (pc := 5) t_n1 dX3_owing_5 ?_
  refine go_aload_n (pc := 6) (j := 0) (i := 0) dX3_owing_6 rfl rfl ?_
  refine go_getR (pc := 7) (n := self) (ci := 3) (k := 35) (t := 13) fa_X3_109_3 t_self rfl dX3_owing_7 fun r2 t_r2 => ?_
  refine go_iload_n (pc := 10) (j := 1) (i := 1) dX3_owing_10 rfl rfl ?_
  refine go_oB fun n2 e_n2 => ?_
  have t_n2 := t_r2 n2 e_n2
  subst e_n2
  refine go_iald (pc := 11) t_n2 dX3_owing_11 ?_
  refine go_i2l (pc := 12) dX3_owing_12 ?_
  refine go_lsub (pc := 13) dX3_owing_13  ?_
  refine go_lstore_n (pc := 14) (j := 2) (i := 2) (A' := [(0, .ref self), (1, .int p0)]) (B' := [(2, ((mL u n1 (xN p0)) - (Int32.toInt64 (mI u n2 (xN p0)))))]) rfl (by decide) (by simp) rfl (by simp) dX3_owing_14 ?_
  refine go_lload_n (pc := 15) (j := 2) (i := 2) dX3_owing_15 rfl 0 rfl ?_
  refine go_l2i (pc := 16) dX3_owing_16 ?_
  exact go_ireturn (pc := 17) rfl dX3_owing_17

def f_X3_pay (self : Nat) (p0 : Int32) (p1 : Int32) (p2 : Int32) (u : zM) : Option (Int32 × zM) := bd (f_X3_isHouse self p0 u) fun v1 u1 => if v1 = 0 then (some ((-2147483648), u1)) else (bd (f_X3_isLot self p1 u1) fun v2 u2 => if v2 = 0 then (some ((-2147483648), u2)) else (lt (mR u2 self 63) fun r1 => oB r1 fun n1 => ix p1 (mN u2 n1) (bd (f_X3_in (Int32.toInt64 p2) 1 (Int32.toInt64 (mI u2 n1 (xN p1))) u2) fun v3 u3 => if v3 = 0 then (some ((-2147483648), u3)) else (lt (mR u3 self 63) fun r2 => oB r2 fun n2 => ix p1 (mN u3 n2) (ix p1 (mN u3 n2) (lt (sI u3 n2 (xN p1) ((mI u3 n2 (xN p1)) - p2)) fun u4 => lt (mR u4 self 35) fun r3 => oB r3 fun n3 => ix p0 (mN u4 n3) (ix p0 (mN u4 n3) (lt (sI u4 n3 (xN p0) ((mI u4 n3 (xN p0)) + p2)) fun u5 => lt (sI u5 self 69 ((mI u5 self 69) + p2)) fun u6 => lt (mR u6 self 58) fun r4 => oB r4 fun n4 => ix p1 (mN u6 n4) (if (mI u6 n4 (xN p1)) = p0 then (bd (f_X3_owing self p0 u6) fun v4 u7 => some (v4, u7)) else (lt (mR u6 self 37) fun r5 => oB r5 fun n5 => ix p0 (mN u6 n5) (ix p0 (mN u6 n5) (lt (sI u6 n5 (xN p0) ((mI u6 n5 (xN p0)) + p2)) fun u8 => bd (f_X3_owing self p0 u8) fun v5 u9 => some (v5, u9)))))))))))))
set_option maxHeartbeats 4000000 in
theorem ct_X3_pay (self : Nat) (p0 : Int32) (p1 : Int32) (p2 : Int32) (t_self : kd self = 3) : zMet yX3_pay cX3_pay 4 (some .int) 3 46 rvI (obT) [.ref self, .int p0, .int p1, .int p2] (f_X3_pay self p0 p1 p2) := by
  refine zMet_of (A := [(0, .ref self), (1, .int p0), (2, .int p1), (3, .int p2)]) (B := []) (ini := false) RX3 rfl (by decide +kernel) (fun h => by cases h) (by simp [lg_sl, Value.category]) (by simp [lv_args, Value.category]) rfl (by simp [lv_args, Value.category]) fun u => ?_
  unfold f_X3_pay
  refine go_aload_n (pc := 0) (j := 0) (i := 0) dX3_pay_0 rfl rfl ?_
  refine go_iload_n (pc := 1) (j := 1) (i := 1) dX3_pay_1 rfl rfl ?_
  refine go_callVI (pc := 2) (ci := 3) (ct_X3_isHouse self p0 t_self) lk_X3_297 rfl rfl rfl (by decide) t_self ⟨by decide, by decide⟩ (Nat.le_of_ble_eq_true rfl) dX3_pay_2 rfl fun v1 u1 => ?_
  refine go_if_eq (pc := 5) (tgt := 32) dX3_pay_5 (by decide) (fun h1 => ?_) (fun h1 => ?_)
  · refine go_ldcw (pc := 32) (v := (-2147483648)) dX3_pay_32 q1595 ?_
    exact go_ireturn (pc := 35) rfl dX3_pay_35
  · refine go_aload_n (pc := 8) (j := 0) (i := 0) dX3_pay_8 rfl rfl ?_
    refine go_iload_n (pc := 9) (j := 2) (i := 2) dX3_pay_9 rfl rfl ?_
    refine go_callVI (pc := 10) (ci := 3) (ct_X3_isLot self p1 t_self) lk_X3_466 rfl rfl rfl (by decide) t_self ⟨by decide, by decide⟩ (Nat.le_of_ble_eq_true rfl) dX3_pay_10 rfl fun v2 u2 => ?_
    refine go_if_eq (pc := 13) (tgt := 32) dX3_pay_13 (by decide) (fun h2 => ?_) (fun h2 => ?_)
    · refine go_ldcw (pc := 32) (v := (-2147483648)) dX3_pay_32 q1595 ?_
      exact go_ireturn (pc := 35) rfl dX3_pay_35
    · refine go_iload_n (pc := 16) (j := 3) (i := 3) dX3_pay_16 rfl rfl ?_
      refine go_i2l (pc := 17) dX3_pay_17 ?_
      refine go_lconst (pc := 18) (v := 1) dX3_pay_18 (by decide) ?_
      refine go_aload_n (pc := 19) (j := 0) (i := 0) dX3_pay_19 rfl rfl ?_
      refine go_getR (pc := 20) (n := self) (ci := 3) (k := 63) (t := 13) fa_X3_200_3 t_self rfl dX3_pay_20 fun r1 t_r1 => ?_
      refine go_iload_n (pc := 23) (j := 2) (i := 2) dX3_pay_23 rfl rfl ?_
      refine go_oB fun n1 e_n1 => ?_
      have t_n1 := t_r1 n1 e_n1
      subst e_n1
      refine go_iald (pc := 24) t_n1 dX3_pay_24 ?_
      refine go_i2l (pc := 25) dX3_pay_25 ?_
      refine go_callSI (pc := 26) (ct_X3_in (Int32.toInt64 p2) 1 (Int32.toInt64 (mI u2 n1 (xN p1)))) lk_X3_274 rfl ⟨by decide, by decide⟩ (Nat.le_of_ble_eq_true rfl) dX3_pay_26 rfl fun v3 u3 => ?_
      refine go_if_ne (pc := 29) (tgt := 36) dX3_pay_29 (by decide) (fun h3 => ?_) (fun h3 => ?_)
      · refine go_ldcw (pc := 32) (v := (-2147483648)) dX3_pay_32 q1595 ?_
        exact go_ireturn (pc := 35) rfl dX3_pay_35
      · refine go_aload_n (pc := 36) (j := 0) (i := 0) dX3_pay_36 rfl rfl ?_
        refine go_getR (pc := 37) (n := self) (ci := 3) (k := 63) (t := 13) fa_X3_200_3 t_self rfl dX3_pay_37 fun r2 t_r2 => ?_
        refine go_iload_n (pc := 40) (j := 2) (i := 2) dX3_pay_40 rfl rfl ?_
        refine go_oB fun n2 e_n2 => ?_
        have t_n2 := t_r2 n2 e_n2
        subst e_n2
        refine go_dup2 (pc := 41) dX3_pay_41 ?_
        refine go_iald (pc := 42) t_n2 dX3_pay_42 ?_
        refine go_iload_n (pc := 43) (j := 3) (i := 3) dX3_pay_43 rfl rfl ?_
        refine go_isub (pc := 44) dX3_pay_44 ?_
        refine go_iast (pc := 45) t_n2 dX3_pay_45 fun u4 => ?_
        refine go_aload_n (pc := 46) (j := 0) (i := 0) dX3_pay_46 rfl rfl ?_
        refine go_getR (pc := 47) (n := self) (ci := 3) (k := 35) (t := 13) fa_X3_109_3 t_self rfl dX3_pay_47 fun r3 t_r3 => ?_
        refine go_iload_n (pc := 50) (j := 1) (i := 1) dX3_pay_50 rfl rfl ?_
        refine go_oB fun n3 e_n3 => ?_
        have t_n3 := t_r3 n3 e_n3
        subst e_n3
        refine go_dup2 (pc := 51) dX3_pay_51 ?_
        refine go_iald (pc := 52) t_n3 dX3_pay_52 ?_
        refine go_iload_n (pc := 53) (j := 3) (i := 3) dX3_pay_53 rfl rfl ?_
        refine go_iadd (pc := 54) dX3_pay_54 ?_
        refine go_iast (pc := 55) t_n3 dX3_pay_55 fun u5 => ?_
        refine go_aload_n (pc := 56) (j := 0) (i := 0) dX3_pay_56 rfl rfl ?_
        refine go_dupA (pc := 57) dX3_pay_57 ?_
        refine go_getI (pc := 58) (n := self) (ci := 3) (k := 69) fa_X3_469_3 t_self rfl dX3_pay_58 ?_
        refine go_iload_n (pc := 61) (j := 3) (i := 3) dX3_pay_61 rfl rfl ?_
        refine go_iadd (pc := 62) dX3_pay_62 ?_
        refine go_putI (pc := 63) (n := self) (ci := 3) (k := 69) (v := ((mI u5 self 69) + p2)) pa_X3_469_3 (fun h => by cases h) t_self rfl zKeep_int dX3_pay_63 fun u6 => ?_
        refine go_aload_n (pc := 66) (j := 0) (i := 0) dX3_pay_66 rfl rfl ?_
        refine go_getR (pc := 67) (n := self) (ci := 3) (k := 58) (t := 13) fa_X3_185_3 t_self rfl dX3_pay_67 fun r4 t_r4 => ?_
        refine go_iload_n (pc := 70) (j := 2) (i := 2) dX3_pay_70 rfl rfl ?_
        refine go_oB fun n4 e_n4 => ?_
        have t_n4 := t_r4 n4 e_n4
        subst e_n4
        refine go_iald (pc := 71) t_n4 dX3_pay_71 ?_
        refine go_iload_n (pc := 72) (j := 1) (i := 1) dX3_pay_72 rfl rfl ?_
        refine go_icmp_eq (pc := 73) (tgt := 86) dX3_pay_73 (by decide) (fun h4 => ?_) (fun h4 => ?_)
        · refine go_aload_n (pc := 86) (j := 0) (i := 0) dX3_pay_86 rfl rfl ?_
          refine go_iload_n (pc := 87) (j := 1) (i := 1) dX3_pay_87 rfl rfl ?_
          refine go_callVI (pc := 88) (ci := 3) (ct_X3_owing self p0 t_self) lk_X3_472 rfl rfl rfl (by decide) t_self ⟨by decide, by decide⟩ (Nat.le_of_ble_eq_true rfl) dX3_pay_88 rfl fun v4 u7 => ?_
          exact go_ireturn (pc := 91) rfl dX3_pay_91
        · refine go_aload_n (pc := 76) (j := 0) (i := 0) dX3_pay_76 rfl rfl ?_
          refine go_getR (pc := 77) (n := self) (ci := 3) (k := 37) (t := 13) fa_X3_115_3 t_self rfl dX3_pay_77 fun r5 t_r5 => ?_
          refine go_iload_n (pc := 80) (j := 1) (i := 1) dX3_pay_80 rfl rfl ?_
          refine go_oB fun n5 e_n5 => ?_
          have t_n5 := t_r5 n5 e_n5
          subst e_n5
          refine go_dup2 (pc := 81) dX3_pay_81 ?_
          refine go_iald (pc := 82) t_n5 dX3_pay_82 ?_
          refine go_iload_n (pc := 83) (j := 3) (i := 3) dX3_pay_83 rfl rfl ?_
          refine go_iadd (pc := 84) dX3_pay_84 ?_
          refine go_iast (pc := 85) t_n5 dX3_pay_85 fun u8 => ?_
          refine go_aload_n (pc := 86) (j := 0) (i := 0) dX3_pay_86 rfl rfl ?_
          refine go_iload_n (pc := 87) (j := 1) (i := 1) dX3_pay_87 rfl rfl ?_
          refine go_callVI (pc := 88) (ci := 3) (ct_X3_owing self p0 t_self) lk_X3_472 rfl rfl rfl (by decide) t_self ⟨by decide, by decide⟩ (Nat.le_of_ble_eq_true rfl) dX3_pay_88 rfl fun v5 u9 => ?_
          exact go_ireturn (pc := 91) rfl dX3_pay_91

def f_X3_least (p0 : Int32) (u : zM) : Option (Int32 × zM) := if 0 ≤ p0 then (some (p0, u)) else (some (0, u))
set_option maxHeartbeats 4000000 in
theorem ct_X3_least (p0 : Int32) : zMet yX3_least cX3_least 1 (some .int) 1 0 rvI (obT) [.int p0] (f_X3_least p0) := by
  refine zMet_of (A := [(0, .int p0)]) (B := []) (ini := false) RX3 rfl (by decide +kernel) (fun h => by cases h) (by simp [lg_sl, Value.category]) (by simp [lv_args, Value.category]) rfl (by simp [lv_args, Value.category]) fun u => ?_
  unfold f_X3_least
  refine go_iload_n (pc := 0) (j := 0) (i := 0) dX3_least_0 rfl rfl ?_
  refine go_if_ge (pc := 1) (tgt := 8) dX3_least_1 (by decide) (fun h1 => ?_) (fun h1 => ?_)
  · refine go_iload_n (pc := 8) (j := 0) (i := 0) dX3_least_8 rfl rfl ?_
    exact go_ireturn (pc := 9) rfl dX3_least_9
  · refine go_iconst (pc := 4) (v := 0) dX3_least_4 (by decide) ?_
    refine go_goto (pc := 5) (tgt := 9) dX3_least_5 (by decide) ?_
    exact go_ireturn (pc := 9) rfl dX3_least_9

def f_X3_due (self : Nat) (p0 : Int32) (p1 : Int32) (u : zM) : Option (Int32 × zM) := bd (f_X3_isHouse self p0 u) fun v1 u1 => if v1 = 0 then (some ((-2147483648), u1)) else (if p1 = 0 then (bd (f_X3_owing self p0 u1) fun v2 u2 => some (v2, u2)) else (if p1 = 1 then (lt (mR u1 self 35) fun r1 => oB r1 fun n1 => ix p0 (mN u1 n1) (some ((mI u1 n1 (xN p0)), u1))) else (if p1 = 2 then (lt (mR u1 self 36) fun r2 => oB r2 fun n2 => ix p0 (mN u1 n2) (some ((mI u1 n2 (xN p0)), u1))) else (if p1 = 3 then (lt (mR u1 self 35) fun r3 => oB r3 fun n3 => ix p0 (mN u1 n3) (lt (mR u1 self 36) fun r4 => oB r4 fun n4 => ix p0 (mN u1 n4) (bd (f_X3_least ((mI u1 n3 (xN p0)) - (mI u1 n4 (xN p0))) u1) fun v3 u3 => some (v3, u3)))) else (if p1 = 4 then (lt (mR u1 self 37) fun r5 => oB r5 fun n5 => ix p0 (mN u1 n5) (some ((mI u1 n5 (xN p0)), u1))) else (some ((-2147483648), u1)))))))
set_option maxHeartbeats 4000000 in
theorem ct_X3_due (self : Nat) (p0 : Int32) (p1 : Int32) (t_self : kd self = 3) : zMet yX3_due cX3_due 3 (some .int) 3 46 rvI (obT) [.ref self, .int p0, .int p1] (f_X3_due self p0 p1) := by
  refine zMet_of (A := [(0, .ref self), (1, .int p0), (2, .int p1)]) (B := []) (ini := false) RX3 rfl (by decide +kernel) (fun h => by cases h) (by simp [lg_sl, Value.category]) (by simp [lv_args, Value.category]) rfl (by simp [lv_args, Value.category]) fun u => ?_
  unfold f_X3_due
  refine go_aload_n (pc := 0) (j := 0) (i := 0) dX3_due_0 rfl rfl ?_
  refine go_iload_n (pc := 1) (j := 1) (i := 1) dX3_due_1 rfl rfl ?_
  refine go_callVI (pc := 2) (ci := 3) (ct_X3_isHouse self p0 t_self) lk_X3_297 rfl rfl rfl (by decide) t_self ⟨by decide, by decide⟩ (Nat.le_of_ble_eq_true rfl) dX3_due_2 rfl fun v1 u1 => ?_
  refine go_if_ne (pc := 5) (tgt := 12) dX3_due_5 (by decide) (fun h1 => ?_) (fun h1 => ?_)
  · refine go_ldcw (pc := 8) (v := (-2147483648)) dX3_due_8 q1595 ?_
    exact go_ireturn (pc := 11) rfl dX3_due_11
  · refine go_iload_n (pc := 12) (j := 2) (i := 2) dX3_due_12 rfl rfl ?_
    refine go_if (fun h2 => ?_) (fun h2 => ?_)
    · refine go_tableIn (pc := 13) (tgt := 48) 0 h2 dX3_due_13 (by decide) (by decide) rfl (by decide) ?_
      refine go_aload_n (pc := 48) (j := 0) (i := 0) dX3_due_48 rfl rfl ?_
      refine go_iload_n (pc := 49) (j := 1) (i := 1) dX3_due_49 rfl rfl ?_
      refine go_callVI (pc := 50) (ci := 3) (ct_X3_owing self p0 t_self) lk_X3_472 rfl rfl rfl (by decide) t_self ⟨by decide, by decide⟩ (Nat.le_of_ble_eq_true rfl) dX3_due_50 rfl fun v2 u2 => ?_
      exact go_ireturn (pc := 53) rfl dX3_due_53
    refine go_if (fun h3 => ?_) (fun h3 => ?_)
    · refine go_tableIn (pc := 13) (tgt := 54) 1 h3 dX3_due_13 (by decide) (by decide) rfl (by decide) ?_
      refine go_aload_n (pc := 54) (j := 0) (i := 0) dX3_due_54 rfl rfl ?_
      refine go_getR (pc := 55) (n := self) (ci := 3) (k := 35) (t := 13) fa_X3_109_3 t_self rfl dX3_due_55 fun r1 t_r1 => ?_
      refine go_iload_n (pc := 58) (j := 1) (i := 1) dX3_due_58 rfl rfl ?_
      refine go_oB fun n1 e_n1 => ?_
      have t_n1 := t_r1 n1 e_n1
      subst e_n1
      refine go_iald (pc := 59) t_n1 dX3_due_59 ?_
      exact go_ireturn (pc := 60) rfl dX3_due_60
    refine go_if (fun h4 => ?_) (fun h4 => ?_)
    · refine go_tableIn (pc := 13) (tgt := 61) 2 h4 dX3_due_13 (by decide) (by decide) rfl (by decide) ?_
      refine go_aload_n (pc := 61) (j := 0) (i := 0) dX3_due_61 rfl rfl ?_
      refine go_getR (pc := 62) (n := self) (ci := 3) (k := 36) (t := 13) fa_X3_112_3 t_self rfl dX3_due_62 fun r2 t_r2 => ?_
      refine go_iload_n (pc := 65) (j := 1) (i := 1) dX3_due_65 rfl rfl ?_
      refine go_oB fun n2 e_n2 => ?_
      have t_n2 := t_r2 n2 e_n2
      subst e_n2
      refine go_iald (pc := 66) t_n2 dX3_due_66 ?_
      exact go_ireturn (pc := 67) rfl dX3_due_67
    refine go_if (fun h5 => ?_) (fun h5 => ?_)
    · refine go_tableIn (pc := 13) (tgt := 68) 3 h5 dX3_due_13 (by decide) (by decide) rfl (by decide) ?_
      refine go_aload_n (pc := 68) (j := 0) (i := 0) dX3_due_68 rfl rfl ?_
      refine go_getR (pc := 69) (n := self) (ci := 3) (k := 35) (t := 13) fa_X3_109_3 t_self rfl dX3_due_69 fun r3 t_r3 => ?_
      refine go_iload_n (pc := 72) (j := 1) (i := 1) dX3_due_72 rfl rfl ?_
      refine go_oB fun n3 e_n3 => ?_
      have t_n3 := t_r3 n3 e_n3
      subst e_n3
      refine go_iald (pc := 73) t_n3 dX3_due_73 ?_
      refine go_aload_n (pc := 74) (j := 0) (i := 0) dX3_due_74 rfl rfl ?_
      refine go_getR (pc := 75) (n := self) (ci := 3) (k := 36) (t := 13) fa_X3_112_3 t_self rfl dX3_due_75 fun r4 t_r4 => ?_
      refine go_iload_n (pc := 78) (j := 1) (i := 1) dX3_due_78 rfl rfl ?_
      refine go_oB fun n4 e_n4 => ?_
      have t_n4 := t_r4 n4 e_n4
      subst e_n4
      refine go_iald (pc := 79) t_n4 dX3_due_79 ?_
      refine go_isub (pc := 80) dX3_due_80 ?_
      refine go_callSI (pc := 81) (ct_X3_least ((mI u1 n3 (xN p0)) - (mI u1 n4 (xN p0)))) lk_X3_448 rfl ⟨by decide, by decide⟩ (Nat.le_of_ble_eq_true rfl) dX3_due_81 rfl fun v3 u3 => ?_
      exact go_ireturn (pc := 84) rfl dX3_due_84
    refine go_if (fun h6 => ?_) (fun h6 => ?_)
    · refine go_tableIn (pc := 13) (tgt := 85) 4 h6 dX3_due_13 (by decide) (by decide) rfl (by decide) ?_
      refine go_aload_n (pc := 85) (j := 0) (i := 0) dX3_due_85 rfl rfl ?_
      refine go_getR (pc := 86) (n := self) (ci := 3) (k := 37) (t := 13) fa_X3_115_3 t_self rfl dX3_due_86 fun r5 t_r5 => ?_
      refine go_iload_n (pc := 89) (j := 1) (i := 1) dX3_due_89 rfl rfl ?_
      refine go_oB fun n5 e_n5 => ?_
      have t_n5 := t_r5 n5 e_n5
      subst e_n5
      refine go_iald (pc := 90) t_n5 dX3_due_90 ?_
      exact go_ireturn (pc := 91) rfl dX3_due_91
    refine go_tableD (pc := 13) (x := p1) (tgt := 92) dX3_due_13 (by decide) (fun a b => ?_) ?_
    · rcases (show Int32.toInt p1 = 0 ∨ Int32.toInt p1 = 1 ∨ Int32.toInt p1 = 2 ∨ Int32.toInt p1 = 3 ∨ Int32.toInt p1 = 4 by omega) with e | e | e | e | e
      · exact absurd (sw_eq (v := 0) (e.trans (by decide))) h2
      · exact absurd (sw_eq (v := 1) (e.trans (by decide))) h3
      · exact absurd (sw_eq (v := 2) (e.trans (by decide))) h4
      · exact absurd (sw_eq (v := 3) (e.trans (by decide))) h5
      · exact absurd (sw_eq (v := 4) (e.trans (by decide))) h6
    · refine go_ldcw (pc := 92) (v := (-2147483648)) dX3_due_92 q1595 ?_
      exact go_ireturn (pc := 95) rfl dX3_due_95

def f_X3_canAsk (self : Nat) (p0 : Int32) (p1 : Int32) (p2 : Int32) (u : zM) : Option (Int32 × zM) := bd (f_X3_isHouse self p0 u) fun v1 u1 => if v1 = 0 then (gb 0 (some (0, u1))) else (bd (f_X3_isLot self p1 u1) fun v2 u2 => if v2 = 0 then (gb 0 (some (0, u2))) else (if (p2 - p2 / 2 * 2) = 0 then (bd (f_X3_in (Int32.toInt64 p2) 2 100 u2) fun v3 u3 => if v3 = 0 then (gb 0 (some (0, u3))) else (gb 1 (some (1, u3)))) else (gb 0 (some (0, u2)))))
set_option maxHeartbeats 4000000 in
theorem ct_X3_canAsk (self : Nat) (p0 : Int32) (p1 : Int32) (p2 : Int32) (t_self : kd self = 3) : zMet yX3_canAsk cX3_canAsk 4 (some .boolean) 3 46 rvI (obT) [.ref self, .int p0, .int p1, .int p2] (f_X3_canAsk self p0 p1 p2) := by
  refine zMet_of (A := [(0, .ref self), (1, .int p0), (2, .int p1), (3, .int p2)]) (B := []) (ini := false) RX3 rfl (by decide +kernel) (fun h => by cases h) (by simp [lg_sl, Value.category]) (by simp [lv_args, Value.category]) rfl (by simp [lv_args, Value.category]) fun u => ?_
  unfold f_X3_canAsk
  refine go_aload_n (pc := 0) (j := 0) (i := 0) dX3_canAsk_0 rfl rfl ?_
  refine go_iload_n (pc := 1) (j := 1) (i := 1) dX3_canAsk_1 rfl rfl ?_
  refine go_callVI (pc := 2) (ci := 3) (ct_X3_isHouse self p0 t_self) lk_X3_297 rfl rfl rfl (by decide) t_self ⟨by decide, by decide⟩ (Nat.le_of_ble_eq_true rfl) dX3_canAsk_2 rfl fun v1 u1 => ?_
  refine go_if_eq (pc := 5) (tgt := 40) dX3_canAsk_5 (by decide) (fun h1 => ?_) (fun h1 => ?_)
  · refine go_iconst (pc := 40) (v := 0) dX3_canAsk_40 (by decide) ?_
    exact go_zreturn (pc := 41) rfl dX3_canAsk_41
  · refine go_aload_n (pc := 8) (j := 0) (i := 0) dX3_canAsk_8 rfl rfl ?_
    refine go_iload_n (pc := 9) (j := 2) (i := 2) dX3_canAsk_9 rfl rfl ?_
    refine go_callVI (pc := 10) (ci := 3) (ct_X3_isLot self p1 t_self) lk_X3_466 rfl rfl rfl (by decide) t_self ⟨by decide, by decide⟩ (Nat.le_of_ble_eq_true rfl) dX3_canAsk_10 rfl fun v2 u2 => ?_
    refine go_if_eq (pc := 13) (tgt := 40) dX3_canAsk_13 (by decide) (fun h2 => ?_) (fun h2 => ?_)
    · refine go_iconst (pc := 40) (v := 0) dX3_canAsk_40 (by decide) ?_
      exact go_zreturn (pc := 41) rfl dX3_canAsk_41
    · refine go_iload_n (pc := 16) (j := 3) (i := 3) dX3_canAsk_16 rfl rfl ?_
      refine go_iconst (pc := 17) (v := 2) dX3_canAsk_17 (by decide) ?_
      refine go_irem (pc := 18) dX3_canAsk_18 (by decide) ?_
      refine go_if_ne (pc := 19) (tgt := 40) dX3_canAsk_19 (by decide) (fun h3 => ?_) (fun h3 => ?_)
      · refine go_iload_n (pc := 22) (j := 3) (i := 3) dX3_canAsk_22 rfl rfl ?_
        refine go_i2l (pc := 23) dX3_canAsk_23 ?_
        refine go_ldc2 (pc := 24) (v := 2) dX3_canAsk_24 q1742 ?_
        refine go_ldc2 (pc := 27) (v := 100) dX3_canAsk_27 q1743 ?_
        refine go_callSI (pc := 30) (ct_X3_in (Int32.toInt64 p2) 2 100) lk_X3_274 rfl ⟨by decide, by decide⟩ (Nat.le_of_ble_eq_true rfl) dX3_canAsk_30 rfl fun v3 u3 => ?_
        refine go_if_eq (pc := 33) (tgt := 40) dX3_canAsk_33 (by decide) (fun h4 => ?_) (fun h4 => ?_)
        · refine go_iconst (pc := 40) (v := 0) dX3_canAsk_40 (by decide) ?_
          exact go_zreturn (pc := 41) rfl dX3_canAsk_41
        · refine go_iconst (pc := 36) (v := 1) dX3_canAsk_36 (by decide) ?_
          refine go_goto (pc := 37) (tgt := 41) dX3_canAsk_37 (by decide) ?_
          exact go_zreturn (pc := 41) rfl dX3_canAsk_41
      · refine go_iconst (pc := 40) (v := 0) dX3_canAsk_40 (by decide) ?_
        exact go_zreturn (pc := 41) rfl dX3_canAsk_41

def f_X3_season (p0 : Int32) (u : zM) : Option (Int32 × zM) := some (((p0 / 13) - (p0 / 13) / 4 * 4), u)
set_option maxHeartbeats 4000000 in
theorem ct_X3_season (p0 : Int32) : zMet yX3_season cX3_season 1 (some .int) 1 0 rvI (obT) [.int p0] (f_X3_season p0) := by
  refine zMet_of (A := [(0, .int p0)]) (B := []) (ini := false) RX3 rfl (by decide +kernel) (fun h => by cases h) (by simp [lg_sl, Value.category]) (by simp [lv_args, Value.category]) rfl (by simp [lv_args, Value.category]) fun u => ?_
  unfold f_X3_season
  refine go_iload_n (pc := 0) (j := 0) (i := 0) dX3_season_0 rfl rfl ?_
  refine go_bipush (pc := 1) (v := 13) dX3_season_1 (by decide) ?_
  refine go_idiv (pc := 3) dX3_season_3 (by decide) ?_
  refine go_iconst (pc := 4) (v := 4) dX3_season_4 (by decide) ?_
  refine go_irem (pc := 5) dX3_season_5 (by decide) ?_
  exact go_ireturn (pc := 6) rfl dX3_season_6

def f_X3_clears_L2 (x0 : Nat) (k21 : zM → Option (Unit × zM)) : Nat → Int32 → zM → Option (Unit × zM)
  | 0, _, _ => none
  | n + 1, x1, u => if 13 ≤ x1 then (k21 u) else (lt (mR u x0 56) fun r1 => oB r1 fun n1 => ix x1 (mN u n1) (lt (sI u n1 (xN x1) 0) fun u1 => f_X3_clears_L2 x0 k21 n (x1 + 1) u1))
section
variable {c0 s0 : Nat} {tbv : List ExceptionTableEntry}
set_option maxHeartbeats 4000000 in
theorem g_X3_clears_L2 (x0 : Nat) (k21 : zM → Option (Unit × zM)) (t_x0 : kd x0 = 3) (hk21 : ∀ (u : zM), Go RX3 cX3_clears 2 (none) false 2 20 [] (obT) (zQ rvV) c0 s0 21 [(0, .ref x0)] [] [] u (k21 u)) : ∀ (n : Nat) (x1 : Int32) (u : zM), Go RX3 cX3_clears 2 (none) false 2 20 [] (obT) (zQ rvV) c0 s0 2 [(0, .ref x0), (1, .int x1)] [] [] u (f_X3_clears_L2 x0 k21 n x1 u) := by
  intro n
  induction n with
  | zero => intros; exact go_none
  | succ n ih =>
    intro x1 u
    unfold f_X3_clears_L2
    refine go_iload_n (pc := 2) (j := 1) (i := 1) dX3_clears_2 rfl rfl ?_
    refine go_bipush (pc := 3) (v := 13) dX3_clears_3 (by decide) ?_
    refine go_icmp_ge (pc := 5) (tgt := 21) dX3_clears_5 (by decide) (fun h1 => ?_) (fun h1 => ?_)
    · exact go_weak (A' := [(0, .ref x0)]) (B' := []) ⟨rfl, trivial⟩ rfl (fun q h => by cases h) (hk21 u)
    · refine go_aload_n (pc := 8) (j := 0) (i := 0) dX3_clears_8 rfl rfl ?_
      refine go_getR (pc := 9) (n := x0) (ci := 3) (k := 56) (t := 13) fa_X3_179_3 t_x0 rfl dX3_clears_9 fun r1 t_r1 => ?_
      refine go_iload_n (pc := 12) (j := 1) (i := 1) dX3_clears_12 rfl rfl ?_
      refine go_iconst (pc := 13) (v := 0) dX3_clears_13 (by decide) ?_
      refine go_oB fun n1 e_n1 => ?_
      have t_n1 := t_r1 n1 e_n1
      subst e_n1
      refine go_iast (pc := 14) t_n1 dX3_clears_14 fun u1 => ?_
      refine go_iinc (pc := 15) (i := 1) (w := 1) (A' := [(0, .ref x0), (1, .int (x1 + 1))]) rfl (by decide) (by decide) rfl rfl rfl dX3_clears_15 ?_
      refine go_goto (pc := 18) (tgt := 2) dX3_clears_18 (by decide) ?_
      exact go_weak (A' := [(0, .ref x0), (1, .int (x1 + 1))]) (B' := []) ⟨rfl, rfl, trivial⟩ rfl (fun q h => by cases h) (ih (x1 + 1) u1)
end
def f_X3_clears (self : Nat) (u : zM) : Option (Unit × zM) := f_X3_clears_L2 self (fun u2 => lt (mR u2 self 56) fun r2 => oB r2 fun n2 => ix 0 (mN u2 n2) (lt (sI u2 n2 (xN 0) (mI u2 self 0)) fun u3 => lt (mR u3 self 56) fun r3 => bd (f_X3_season (mI u3 self 0) u3) fun v1 u4 => oB r3 fun n3 => ix 1 (mN u4 n3) (lt (sI u4 n3 (xN 1) v1) fun u5 => some ((), u5)))) zFu 0 u
set_option maxHeartbeats 4000000 in
theorem ct_X3_clears (self : Nat) (t_self : kd self = 3) : zMet yX3_clears cX3_clears 2 (none) 2 20 rvV (obT) [.ref self] (f_X3_clears self) := by
  refine zMet_of (A := [(0, .ref self)]) (B := []) (ini := false) RX3 rfl (by decide +kernel) (fun h => by cases h) (by simp [lg_sl, Value.category]) (by simp [lv_args, Value.category]) rfl (by simp [lv_args, Value.category]) fun u => ?_
  unfold f_X3_clears
  refine go_iconst (pc := 0) (v := 0) dX3_clears_0 (by decide) ?_
  refine go_istore_n (pc := 1) (j := 1) (i := 1) (A' := [(0, .ref self), (1, .int 0)]) rfl (by decide) rfl rfl rfl dX3_clears_1 ?_
  refine go_weak (A' := [(0, .ref self), (1, .int 0)]) (B' := []) ⟨rfl, rfl, trivial⟩ rfl (fun q h => by cases h) (g_X3_clears_L2 self _ t_self ?_ zFu 0 u)
  · intro u2
    refine go_aload_n (pc := 21) (j := 0) (i := 0) dX3_clears_21 rfl rfl ?_
    refine go_getR (pc := 22) (n := self) (ci := 3) (k := 56) (t := 13) fa_X3_179_3 t_self rfl dX3_clears_22 fun r2 t_r2 => ?_
    refine go_iconst (pc := 25) (v := 0) dX3_clears_25 (by decide) ?_
    refine go_aload_n (pc := 26) (j := 0) (i := 0) dX3_clears_26 rfl rfl ?_
    refine go_getI (pc := 27) (n := self) (ci := 3) (k := 0) fa_X3_286_3 t_self rfl dX3_clears_27 ?_
    refine go_oB fun n2 e_n2 => ?_
    have t_n2 := t_r2 n2 e_n2
    subst e_n2
    refine go_iast (pc := 30) t_n2 dX3_clears_30 fun u3 => ?_
    refine go_aload_n (pc := 31) (j := 0) (i := 0) dX3_clears_31 rfl rfl ?_
    refine go_getR (pc := 32) (n := self) (ci := 3) (k := 56) (t := 13) fa_X3_179_3 t_self rfl dX3_clears_32 fun r3 t_r3 => ?_
    refine go_iconst (pc := 35) (v := 1) dX3_clears_35 (by decide) ?_
    refine go_aload_n (pc := 36) (j := 0) (i := 0) dX3_clears_36 rfl rfl ?_
    refine go_getI (pc := 37) (n := self) (ci := 3) (k := 0) fa_X3_286_3 t_self rfl dX3_clears_37 ?_
    refine go_callSI (pc := 40) (ct_X3_season (mI u3 self 0)) lk_X3_436 rfl ⟨by decide, by decide⟩ (by simp [cat_rf, cat_int, cat_ref, cat_long]) dX3_clears_40 rfl fun v1 u4 => ?_
    refine go_oB fun n3 e_n3 => ?_
    have t_n3 := t_r3 n3 e_n3
    subst e_n3
    refine go_iast (pc := 43) t_n3 dX3_clears_43 fun u5 => ?_
    exact go_vreturn (pc := 44) rfl dX3_clears_44

def f_X3_asksOf_3 (self : Nat) (p0 : Int32) (u : zM) : Option (Unit × zM) := bd (f_X3_clears self u) fun v1 u1 => lt (mR u1 self 56) fun r1 => lt (mR u1 self 24) fun r2 => oB r2 fun n1 => ix p0 (mN u1 n1) (oB r1 fun n2 => ix 2 (mN u1 n2) (lt (sI u1 n2 (xN 2) (mI u1 n1 (xN p0))) fun u2 => lt (mR u2 self 56) fun r3 => lt (mR u2 self 21) fun r4 => oB r4 fun n3 => ix p0 (mN u2 n3) (oB r3 fun n4 => ix 3 (mN u2 n4) (lt (sI u2 n4 (xN 3) (mI u2 n3 (xN p0))) fun u3 => lt (mR u3 self 56) fun r5 => lt (mR u3 self 22) fun r6 => oB r6 fun n5 => ix p0 (mN u3 n5) (oB r5 fun n6 => ix 4 (mN u3 n6) (lt (sI u3 n6 (xN 4) (mI u3 n5 (xN p0))) fun u4 => lt (mR u4 self 56) fun r7 => lt (mR u4 self 23) fun r8 => oB r8 fun n7 => ix p0 (mN u4 n7) (oB r7 fun n8 => ix 5 (mN u4 n8) (lt (sI u4 n8 (xN 5) (mI u4 n7 (xN p0))) fun u5 => lt (mR u5 self 56) fun r9 => lt (mR u5 self 3) fun r10 => lt (mR u5 self 20) fun r11 => oB r11 fun n9 => ix p0 (mN u5 n9) (oB r10 fun n10 => ix (mI u5 n9 (xN p0)) (mN u5 n10) (lt (mR u5 n10 (xN (mI u5 n9 (xN p0)))) fun r12 => bd (f_X3_season (mI u5 self 0) u5) fun v2 u6 => oB r12 fun n11 => ix v2 (mN u6 n11) (oB r9 fun n12 => ix 10 (mN u6 n12) (lt (sI u6 n12 (xN 10) (mI u6 n11 (xN v2))) fun u7 => some ((), u7)))))))))))))
set_option maxHeartbeats 4000000 in
theorem ct_X3_asksOf_3 (self : Nat) (p0 : Int32) (t_self : kd self = 3) : zMet yX3_asksOf_3 cX3_asksOf_3 2 (none) 3 41 rvV (obT) [.ref self, .int p0] (f_X3_asksOf_3 self p0) := by
  refine zMet_of (A := [(0, .ref self), (1, .int p0)]) (B := []) (ini := false) RX3 rfl (by decide +kernel) (fun h => by cases h) (by simp [lg_sl, Value.category]) (by simp [lv_args, Value.category]) rfl (by simp [lv_args, Value.category]) fun u => ?_
  unfold f_X3_asksOf_3
  refine go_aload_n (pc := 0) (j := 0) (i := 0) dX3_asksOf_3_0 rfl rfl ?_
  refine go_callVV (pc := 1) (ci := 3) (ct_X3_clears self t_self) lk_X3_439 rfl rfl rfl (by decide) t_self ⟨by decide, by decide⟩ (Nat.le_of_ble_eq_true rfl) dX3_asksOf_3_1 rfl fun v1 u1 => ?_
  refine go_aload_n (pc := 4) (j := 0) (i := 0) dX3_asksOf_3_4 rfl rfl ?_
  refine go_getR (pc := 5) (n := self) (ci := 3) (k := 56) (t := 13) fa_X3_179_3 t_self rfl dX3_asksOf_3_5 fun r1 t_r1 => ?_
  refine go_iconst (pc := 8) (v := 2) dX3_asksOf_3_8 (by decide) ?_
  refine go_aload_n (pc := 9) (j := 0) (i := 0) dX3_asksOf_3_9 rfl rfl ?_
  refine go_getR (pc := 10) (n := self) (ci := 3) (k := 24) (t := 13) fa_X3_75_3 t_self rfl dX3_asksOf_3_10 fun r2 t_r2 => ?_
  refine go_iload_n (pc := 13) (j := 1) (i := 1) dX3_asksOf_3_13 rfl rfl ?_
  refine go_oB fun n1 e_n1 => ?_
  have t_n1 := t_r2 n1 e_n1
  subst e_n1
  refine go_iald (pc := 14) t_n1 dX3_asksOf_3_14 ?_
  refine go_oB fun n2 e_n2 => ?_
  have t_n2 := t_r1 n2 e_n2
  subst e_n2
  refine go_iast (pc := 15) t_n2 dX3_asksOf_3_15 fun u2 => ?_
  refine go_aload_n (pc := 16) (j := 0) (i := 0) dX3_asksOf_3_16 rfl rfl ?_
  refine go_getR (pc := 17) (n := self) (ci := 3) (k := 56) (t := 13) fa_X3_179_3 t_self rfl dX3_asksOf_3_17 fun r3 t_r3 => ?_
  refine go_iconst (pc := 20) (v := 3) dX3_asksOf_3_20 (by decide) ?_
  refine go_aload_n (pc := 21) (j := 0) (i := 0) dX3_asksOf_3_21 rfl rfl ?_
  refine go_getR (pc := 22) (n := self) (ci := 3) (k := 21) (t := 13) fa_X3_66_3 t_self rfl dX3_asksOf_3_22 fun r4 t_r4 => ?_
  refine go_iload_n (pc := 25) (j := 1) (i := 1) dX3_asksOf_3_25 rfl rfl ?_
  refine go_oB fun n3 e_n3 => ?_
  have t_n3 := t_r4 n3 e_n3
  subst e_n3
  refine go_iald (pc := 26) t_n3 dX3_asksOf_3_26 ?_
  refine go_oB fun n4 e_n4 => ?_
  have t_n4 := t_r3 n4 e_n4
  subst e_n4
  refine go_iast (pc := 27) t_n4 dX3_asksOf_3_27 fun u3 => ?_
  refine go_aload_n (pc := 28) (j := 0) (i := 0) dX3_asksOf_3_28 rfl rfl ?_
  refine go_getR (pc := 29) (n := self) (ci := 3) (k := 56) (t := 13) fa_X3_179_3 t_self rfl dX3_asksOf_3_29 fun r5 t_r5 => ?_
  refine go_iconst (pc := 32) (v := 4) dX3_asksOf_3_32 (by decide) ?_
  refine go_aload_n (pc := 33) (j := 0) (i := 0) dX3_asksOf_3_33 rfl rfl ?_
  refine go_getR (pc := 34) (n := self) (ci := 3) (k := 22) (t := 13) fa_X3_69_3 t_self rfl dX3_asksOf_3_34 fun r6 t_r6 => ?_
  refine go_iload_n (pc := 37) (j := 1) (i := 1) dX3_asksOf_3_37 rfl rfl ?_
  refine go_oB fun n5 e_n5 => ?_
  have t_n5 := t_r6 n5 e_n5
  subst e_n5
  refine go_iald (pc := 38) t_n5 dX3_asksOf_3_38 ?_
  refine go_oB fun n6 e_n6 => ?_
  have t_n6 := t_r5 n6 e_n6
  subst e_n6
  refine go_iast (pc := 39) t_n6 dX3_asksOf_3_39 fun u4 => ?_
  refine go_aload_n (pc := 40) (j := 0) (i := 0) dX3_asksOf_3_40 rfl rfl ?_
  refine go_getR (pc := 41) (n := self) (ci := 3) (k := 56) (t := 13) fa_X3_179_3 t_self rfl dX3_asksOf_3_41 fun r7 t_r7 => ?_
  refine go_iconst (pc := 44) (v := 5) dX3_asksOf_3_44 (by decide) ?_
  refine go_aload_n (pc := 45) (j := 0) (i := 0) dX3_asksOf_3_45 rfl rfl ?_
  refine go_getR (pc := 46) (n := self) (ci := 3) (k := 23) (t := 13) fa_X3_72_3 t_self rfl dX3_asksOf_3_46 fun r8 t_r8 => ?_
  refine go_iload_n (pc := 49) (j := 1) (i := 1) dX3_asksOf_3_49 rfl rfl ?_
  refine go_oB fun n7 e_n7 => ?_
  have t_n7 := t_r8 n7 e_n7
  subst e_n7
  refine go_iald (pc := 50) t_n7 dX3_asksOf_3_50 ?_
  refine go_oB fun n8 e_n8 => ?_
  have t_n8 := t_r7 n8 e_n8
  subst e_n8
  refine go_iast (pc := 51) t_n8 dX3_asksOf_3_51 fun u5 => ?_
  refine go_aload_n (pc := 52) (j := 0) (i := 0) dX3_asksOf_3_52 rfl rfl ?_
  refine go_getR (pc := 53) (n := self) (ci := 3) (k := 56) (t := 13) fa_X3_179_3 t_self rfl dX3_asksOf_3_53 fun r9 t_r9 => ?_
  refine go_bipush (pc := 56) (v := 10) dX3_asksOf_3_56 (by decide) ?_
  refine go_aload_n (pc := 58) (j := 0) (i := 0) dX3_asksOf_3_58 rfl rfl ?_
  refine go_getR (pc := 59) (n := self) (ci := 3) (k := 3) (t := 23) fa_X3_11_3 t_self rfl dX3_asksOf_3_59 fun r10 t_r10 => ?_
  refine go_aload_n (pc := 62) (j := 0) (i := 0) dX3_asksOf_3_62 rfl rfl ?_
  refine go_getR (pc := 63) (n := self) (ci := 3) (k := 20) (t := 13) fa_X3_63_3 t_self rfl dX3_asksOf_3_63 fun r11 t_r11 => ?_
  refine go_iload_n (pc := 66) (j := 1) (i := 1) dX3_asksOf_3_66 rfl rfl ?_
  refine go_oB fun n9 e_n9 => ?_
  have t_n9 := t_r11 n9 e_n9
  subst e_n9
  refine go_iald (pc := 67) t_n9 dX3_asksOf_3_67 ?_
  refine go_oB fun n10 e_n10 => ?_
  have t_n10 := t_r10 n10 e_n10
  subst e_n10
  refine go_aald (pc := 68) (n := n10) (ci := 23) (t := 13) (by decide) (by decide) t_n10 rfl dX3_asksOf_3_68 fun r12 t_r12 => ?_
  refine go_aload_n (pc := 69) (j := 0) (i := 0) dX3_asksOf_3_69 rfl rfl ?_
  refine go_getI (pc := 70) (n := self) (ci := 3) (k := 0) fa_X3_286_3 t_self rfl dX3_asksOf_3_70 ?_
  refine go_callSI (pc := 73) (ct_X3_season (mI u5 self 0)) lk_X3_436 rfl ⟨by decide, by decide⟩ (by simp [cat_rf, cat_int, cat_ref, cat_long]) dX3_asksOf_3_73 rfl fun v2 u6 => ?_
  refine go_oB fun n11 e_n11 => ?_
  have t_n11 := t_r12 n11 e_n11
  subst e_n11
  refine go_iald (pc := 76) t_n11 dX3_asksOf_3_76 ?_
  refine go_oB fun n12 e_n12 => ?_
  have t_n12 := t_r9 n12 e_n12
  subst e_n12
  refine go_iast (pc := 77) t_n12 dX3_asksOf_3_77 fun u7 => ?_
  exact go_vreturn (pc := 78) rfl dX3_asksOf_3_78

def f_X3_asksOf_2 (self : Nat) (p0 : Int32) (p1 : Int32) (p2 : Int32) (p3 : Int32) (p4 : Int32) (p5 : Int32) (u : zM) : Option (Unit × zM) := bd (f_X3_asksOf_3 self p0 u) fun v1 u1 => lt (mR u1 self 56) fun r1 => oB r1 fun n1 => ix 6 (mN u1 n1) (lt (sI u1 n1 (xN 6) p1) fun u2 => lt (mR u2 self 56) fun r2 => oB r2 fun n2 => ix 7 (mN u2 n2) (lt (sI u2 n2 (xN 7) p2) fun u3 => lt (mR u3 self 56) fun r3 => oB r3 fun n3 => ix 8 (mN u3 n3) (lt (sI u3 n3 (xN 8) p3) fun u4 => lt (mR u4 self 56) fun r4 => oB r4 fun n4 => ix 9 (mN u4 n4) (lt (sI u4 n4 (xN 9) p4) fun u5 => lt (mR u5 self 56) fun r5 => oB r5 fun n5 => ix 11 (mN u5 n5) (lt (sI u5 n5 (xN 11) p5) fun u6 => some ((), u6))))))
set_option maxHeartbeats 4000000 in
theorem ct_X3_asksOf_2 (self : Nat) (p0 : Int32) (p1 : Int32) (p2 : Int32) (p3 : Int32) (p4 : Int32) (p5 : Int32) (t_self : kd self = 3) : zMet yX3_asksOf_2 cX3_asksOf_2 7 (none) 4 62 rvV (obT) [.ref self, .int p0, .int p1, .int p2, .int p3, .int p4, .int p5] (f_X3_asksOf_2 self p0 p1 p2 p3 p4 p5) := by
  refine zMet_of (A := [(0, .ref self), (1, .int p0), (2, .int p1), (3, .int p2), (4, .int p3), (5, .int p4), (6, .int p5)]) (B := []) (ini := false) RX3 rfl (by decide +kernel) (fun h => by cases h) (by simp [lg_sl, Value.category]) (by simp [lv_args, Value.category]) rfl (by simp [lv_args, Value.category]) fun u => ?_
  unfold f_X3_asksOf_2
  refine go_aload_n (pc := 0) (j := 0) (i := 0) dX3_asksOf_2_0 rfl rfl ?_
  refine go_iload_n (pc := 1) (j := 1) (i := 1) dX3_asksOf_2_1 rfl rfl ?_
  refine go_callVV (pc := 2) (ci := 3) (ct_X3_asksOf_3 self p0 t_self) lk_X3_442 rfl rfl rfl (by decide) t_self ⟨by decide, by decide⟩ (Nat.le_of_ble_eq_true rfl) dX3_asksOf_2_2 rfl fun v1 u1 => ?_
  refine go_aload_n (pc := 5) (j := 0) (i := 0) dX3_asksOf_2_5 rfl rfl ?_
  refine go_getR (pc := 6) (n := self) (ci := 3) (k := 56) (t := 13) fa_X3_179_3 t_self rfl dX3_asksOf_2_6 fun r1 t_r1 => ?_
  refine go_bipush (pc := 9) (v := 6) dX3_asksOf_2_9 (by decide) ?_
  refine go_iload_n (pc := 11) (j := 2) (i := 2) dX3_asksOf_2_11 rfl rfl ?_
  refine go_oB fun n1 e_n1 => ?_
  have t_n1 := t_r1 n1 e_n1
  subst e_n1
  refine go_iast (pc := 12) t_n1 dX3_asksOf_2_12 fun u2 => ?_
  refine go_aload_n (pc := 13) (j := 0) (i := 0) dX3_asksOf_2_13 rfl rfl ?_
  refine go_getR (pc := 14) (n := self) (ci := 3) (k := 56) (t := 13) fa_X3_179_3 t_self rfl dX3_asksOf_2_14 fun r2 t_r2 => ?_
  refine go_bipush (pc := 17) (v := 7) dX3_asksOf_2_17 (by decide) ?_
  refine go_iload_n (pc := 19) (j := 3) (i := 3) dX3_asksOf_2_19 rfl rfl ?_
  refine go_oB fun n2 e_n2 => ?_
  have t_n2 := t_r2 n2 e_n2
  subst e_n2
  refine go_iast (pc := 20) t_n2 dX3_asksOf_2_20 fun u3 => ?_
  refine go_aload_n (pc := 21) (j := 0) (i := 0) dX3_asksOf_2_21 rfl rfl ?_
  refine go_getR (pc := 22) (n := self) (ci := 3) (k := 56) (t := 13) fa_X3_179_3 t_self rfl dX3_asksOf_2_22 fun r3 t_r3 => ?_
  refine go_bipush (pc := 25) (v := 8) dX3_asksOf_2_25 (by decide) ?_
  refine go_iload (pc := 27) (i := 4) dX3_asksOf_2_27 rfl ?_
  refine go_oB fun n3 e_n3 => ?_
  have t_n3 := t_r3 n3 e_n3
  subst e_n3
  refine go_iast (pc := 29) t_n3 dX3_asksOf_2_29 fun u4 => ?_
  refine go_aload_n (pc := 30) (j := 0) (i := 0) dX3_asksOf_2_30 rfl rfl ?_
  refine go_getR (pc := 31) (n := self) (ci := 3) (k := 56) (t := 13) fa_X3_179_3 t_self rfl dX3_asksOf_2_31 fun r4 t_r4 => ?_
  refine go_bipush (pc := 34) (v := 9) dX3_asksOf_2_34 (by decide) ?_
  refine go_iload (pc := 36) (i := 5) dX3_asksOf_2_36 rfl ?_
  refine go_oB fun n4 e_n4 => ?_
  have t_n4 := t_r4 n4 e_n4
  subst e_n4
  refine go_iast (pc := 38) t_n4 dX3_asksOf_2_38 fun u5 => ?_
  refine go_aload_n (pc := 39) (j := 0) (i := 0) dX3_asksOf_2_39 rfl rfl ?_
  refine go_getR (pc := 40) (n := self) (ci := 3) (k := 56) (t := 13) fa_X3_179_3 t_self rfl dX3_asksOf_2_40 fun r5 t_r5 => ?_
  refine go_bipush (pc := 43) (v := 11) dX3_asksOf_2_43 (by decide) ?_
  refine go_iload (pc := 45) (i := 6) dX3_asksOf_2_45 rfl ?_
  refine go_oB fun n5 e_n5 => ?_
  have t_n5 := t_r5 n5 e_n5
  subst e_n5
  refine go_iast (pc := 47) t_n5 dX3_asksOf_2_47 fun u6 => ?_
  exact go_vreturn (pc := 48) rfl dX3_asksOf_2_48

def f_X3_asksOf (self : Nat) (p0 : Int32) (p1 : Int32) (p2 : Int32) (u : zM) : Option (Unit × zM) := lt (mR u self 58) fun r1 => oB r1 fun n1 => ix p1 (mN u n1) (lt (mR u self 23) fun r2 => oB r2 fun n2 => ix p0 (mN u n2) (lt (mR u self 60) fun r3 => oB r3 fun n3 => ix p1 (mN u n3) (lt (mR u self 61) fun r4 => oB r4 fun n4 => ix p1 (mN u n4) (lt (mR u self 20) fun r5 => lt (mR u self 58) fun r6 => oB r6 fun n5 => ix p1 (mN u n5) (oB r5 fun n6 => ix (mI u n5 (xN p1)) (mN u n6) (lt (mR u self 20) fun r7 => oB r7 fun n7 => ix p0 (mN u n7) (bd (f_X3_farOf self (mI u n6 (xN (mI u n5 (xN p1)))) (mI u n7 (xN p0)) u) fun v1 u1 => bd (f_X3_asksOf_2 self (mI u n1 (xN p1)) (mI u n2 (xN p0)) (mI u n3 (xN p1)) (mI u n4 (xN p1)) p2 v1 u1) fun v2 u2 => some ((), u2))))))))
set_option maxHeartbeats 4000000 in
theorem ct_X3_asksOf (self : Nat) (p0 : Int32) (p1 : Int32) (p2 : Int32) (t_self : kd self = 3) : zMet yX3_asksOf cX3_asksOf 4 (none) 5 88 rvV (obT) [.ref self, .int p0, .int p1, .int p2] (f_X3_asksOf self p0 p1 p2) := by
  refine zMet_of (A := [(0, .ref self), (1, .int p0), (2, .int p1), (3, .int p2)]) (B := []) (ini := false) RX3 rfl (by decide +kernel) (fun h => by cases h) (by simp [lg_sl, Value.category]) (by simp [lv_args, Value.category]) rfl (by simp [lv_args, Value.category]) fun u => ?_
  unfold f_X3_asksOf
  refine go_aload_n (pc := 0) (j := 0) (i := 0) dX3_asksOf_0 rfl rfl ?_
  refine go_aload_n (pc := 1) (j := 0) (i := 0) dX3_asksOf_1 rfl rfl ?_
  refine go_getR (pc := 2) (n := self) (ci := 3) (k := 58) (t := 13) fa_X3_185_3 t_self rfl dX3_asksOf_2 fun r1 t_r1 => ?_
  refine go_iload_n (pc := 5) (j := 2) (i := 2) dX3_asksOf_5 rfl rfl ?_
  refine go_oB fun n1 e_n1 => ?_
  have t_n1 := t_r1 n1 e_n1
  subst e_n1
  refine go_iald (pc := 6) t_n1 dX3_asksOf_6 ?_
  refine go_aload_n (pc := 7) (j := 0) (i := 0) dX3_asksOf_7 rfl rfl ?_
  refine go_getR (pc := 8) (n := self) (ci := 3) (k := 23) (t := 13) fa_X3_72_3 t_self rfl dX3_asksOf_8 fun r2 t_r2 => ?_
  refine go_iload_n (pc := 11) (j := 1) (i := 1) dX3_asksOf_11 rfl rfl ?_
  refine go_oB fun n2 e_n2 => ?_
  have t_n2 := t_r2 n2 e_n2
  subst e_n2
  refine go_iald (pc := 12) t_n2 dX3_asksOf_12 ?_
  refine go_aload_n (pc := 13) (j := 0) (i := 0) dX3_asksOf_13 rfl rfl ?_
  refine go_getR (pc := 14) (n := self) (ci := 3) (k := 60) (t := 13) fa_X3_191_3 t_self rfl dX3_asksOf_14 fun r3 t_r3 => ?_
  refine go_iload_n (pc := 17) (j := 2) (i := 2) dX3_asksOf_17 rfl rfl ?_
  refine go_oB fun n3 e_n3 => ?_
  have t_n3 := t_r3 n3 e_n3
  subst e_n3
  refine go_iald (pc := 18) t_n3 dX3_asksOf_18 ?_
  refine go_aload_n (pc := 19) (j := 0) (i := 0) dX3_asksOf_19 rfl rfl ?_
  refine go_getR (pc := 20) (n := self) (ci := 3) (k := 61) (t := 13) fa_X3_194_3 t_self rfl dX3_asksOf_20 fun r4 t_r4 => ?_
  refine go_iload_n (pc := 23) (j := 2) (i := 2) dX3_asksOf_23 rfl rfl ?_
  refine go_oB fun n4 e_n4 => ?_
  have t_n4 := t_r4 n4 e_n4
  subst e_n4
  refine go_iald (pc := 24) t_n4 dX3_asksOf_24 ?_
  refine go_iload_n (pc := 25) (j := 3) (i := 3) dX3_asksOf_25 rfl rfl ?_
  refine go_aload_n (pc := 26) (j := 0) (i := 0) dX3_asksOf_26 rfl rfl ?_
  refine go_aload_n (pc := 27) (j := 0) (i := 0) dX3_asksOf_27 rfl rfl ?_
  refine go_getR (pc := 28) (n := self) (ci := 3) (k := 20) (t := 13) fa_X3_63_3 t_self rfl dX3_asksOf_28 fun r5 t_r5 => ?_
  refine go_aload_n (pc := 31) (j := 0) (i := 0) dX3_asksOf_31 rfl rfl ?_
  refine go_getR (pc := 32) (n := self) (ci := 3) (k := 58) (t := 13) fa_X3_185_3 t_self rfl dX3_asksOf_32 fun r6 t_r6 => ?_
  refine go_iload_n (pc := 35) (j := 2) (i := 2) dX3_asksOf_35 rfl rfl ?_
  refine go_oB fun n5 e_n5 => ?_
  have t_n5 := t_r6 n5 e_n5
  subst e_n5
  refine go_iald (pc := 36) t_n5 dX3_asksOf_36 ?_
  refine go_oB fun n6 e_n6 => ?_
  have t_n6 := t_r5 n6 e_n6
  subst e_n6
  refine go_iald (pc := 37) t_n6 dX3_asksOf_37 ?_
  refine go_aload_n (pc := 38) (j := 0) (i := 0) dX3_asksOf_38 rfl rfl ?_
  refine go_getR (pc := 39) (n := self) (ci := 3) (k := 20) (t := 13) fa_X3_63_3 t_self rfl dX3_asksOf_39 fun r7 t_r7 => ?_
  refine go_iload_n (pc := 42) (j := 1) (i := 1) dX3_asksOf_42 rfl rfl ?_
  refine go_oB fun n7 e_n7 => ?_
  have t_n7 := t_r7 n7 e_n7
  subst e_n7
  refine go_iald (pc := 43) t_n7 dX3_asksOf_43 ?_
  refine go_callVI (pc := 44) (ci := 3) (ct_X3_farOf self (mI u n6 (xN (mI u n5 (xN p1)))) (mI u n7 (xN p0)) t_self) lk_X3_293 rfl rfl rfl (by decide) t_self ⟨by decide, by decide⟩ (Nat.le_of_ble_eq_true rfl) dX3_asksOf_44 rfl fun v1 u1 => ?_
  refine go_callVV (pc := 47) (ci := 3) (ct_X3_asksOf_2 self (mI u n1 (xN p1)) (mI u n2 (xN p0)) (mI u n3 (xN p1)) (mI u n4 (xN p1)) p2 v1 t_self) lk_X3_475 rfl rfl rfl (by decide) t_self ⟨by decide, by decide⟩ (Nat.le_of_ble_eq_true rfl) dX3_asksOf_47 rfl fun v2 u2 => ?_
  exact go_vreturn (pc := 50) rfl dX3_asksOf_50

def f_X3_brought (p0 : Int64) (u : zM) : Option (Int32 × zM) := if 0 ≤ (lg_cmp p0 (-1000000)) then (if (lg_cmp p0 1000000) ≤ 0 then (some ((Int64.toInt32 p0), u)) else (some ((Int64.toInt32 1000000), u))) else (some ((Int64.toInt32 (-1000000)), u))
set_option maxHeartbeats 4000000 in
theorem ct_X3_brought (p0 : Int64) : zMet yX3_brought cX3_brought 2 (some .int) 1 0 rvI (obT) [.long p0] (f_X3_brought p0) := by
  refine zMet_of (A := []) (B := [(0, p0)]) (ini := false) RX3 rfl (by decide +kernel) (fun h => by cases h) (by simp [lg_sl, Value.category]) (by simp [lv_args, Value.category]) rfl (by simp [lv_args, Value.category]) fun u => ?_
  unfold f_X3_brought
  refine go_lload_n (pc := 0) (j := 0) (i := 0) dX3_brought_0 rfl 0 rfl ?_
  refine go_ldc2 (pc := 1) (v := (-1000000)) dX3_brought_1 q1781 ?_
  refine go_lcmp (pc := 4) dX3_brought_4 ?_
  refine go_if_ge (pc := 5) (tgt := 14) dX3_brought_5 (by decide) (fun h1 => ?_) (fun h1 => ?_)
  · refine go_lload_n (pc := 14) (j := 0) (i := 0) dX3_brought_14 rfl 0 rfl ?_
    refine go_ldc2 (pc := 15) (v := 1000000) dX3_brought_15 q1782 ?_
    refine go_lcmp (pc := 18) dX3_brought_18 ?_
    refine go_if_le (pc := 19) (tgt := 28) dX3_brought_19 (by decide) (fun h2 => ?_) (fun h2 => ?_)
    · refine go_lload_n (pc := 28) (j := 0) (i := 0) dX3_brought_28 rfl 0 rfl ?_
      refine go_l2i (pc := 29) dX3_brought_29 ?_
      exact go_ireturn (pc := 30) rfl dX3_brought_30
    · refine go_ldc2 (pc := 22) (v := 1000000) dX3_brought_22 q1782 ?_
      refine go_goto (pc := 25) (tgt := 29) dX3_brought_25 (by decide) ?_
      refine go_l2i (pc := 29) dX3_brought_29 ?_
      exact go_ireturn (pc := 30) rfl dX3_brought_30
  · refine go_ldc2 (pc := 8) (v := (-1000000)) dX3_brought_8 q1781 ?_
    refine go_goto (pc := 11) (tgt := 29) dX3_brought_11 (by decide) ?_
    refine go_l2i (pc := 29) dX3_brought_29 ?_
    exact go_ireturn (pc := 30) rfl dX3_brought_30

def f_X3_done (p0 : Int32) (p1 : Int32) (p2 : Int32) (u : zM) : Option (Int32 × zM) := if p0 = 38 then (some ((p1 &&& p2), u)) else (if p0 = 42 then (bd (f_X3_brought ((Int32.toInt64 p1) * (Int32.toInt64 p2)) u) fun v1 u1 => some (v1, u1)) else (if p0 = 43 then (bd (f_X3_brought ((Int32.toInt64 p1) + (Int32.toInt64 p2)) u) fun v2 u2 => some (v2, u2)) else (if p0 = 45 then (bd (f_X3_brought ((Int32.toInt64 p1) - (Int32.toInt64 p2)) u) fun v3 u3 => some (v3, u3)) else (if p0 = 47 then (if p2 = 0 then (some (0, u)) else (gz p2 (some ((p1 / p2), u)))) else (if p0 = 60 then (if p2 ≤ p1 then (some (0, u)) else (some (1, u))) else (if p0 = 61 then (if p1 = p2 then (some (1, u)) else (some (0, u))) else (if p0 = 62 then (if p1 ≤ p2 then (some (0, u)) else (some (1, u))) else (some ((p1 ||| p2), u)))))))))
set_option maxHeartbeats 4000000 in
theorem ct_X3_done (p0 : Int32) (p1 : Int32) (p2 : Int32) : zMet yX3_done cX3_done 3 (some .int) 2 21 rvI (obT) [.int p0, .int p1, .int p2] (f_X3_done p0 p1 p2) := by
  refine zMet_of (A := [(0, .int p0), (1, .int p1), (2, .int p2)]) (B := []) (ini := false) RX3 rfl (by decide +kernel) (fun h => by cases h) (by simp [lg_sl, Value.category]) (by simp [lv_args, Value.category]) rfl (by simp [lv_args, Value.category]) fun u => ?_
  unfold f_X3_done
  refine go_iload_n (pc := 0) (j := 0) (i := 0) dX3_done_0 rfl rfl ?_
  refine go_if (fun h1 => ?_) (fun h1 => ?_)
  · refine go_tableIn (pc := 1) (tgt := 188) 38 h1 dX3_done_1 (by decide) (by decide) rfl (by decide) ?_
    refine go_iload_n (pc := 188) (j := 1) (i := 1) dX3_done_188 rfl rfl ?_
    refine go_iload_n (pc := 189) (j := 2) (i := 2) dX3_done_189 rfl rfl ?_
    refine go_iand (pc := 190) dX3_done_190 ?_
    exact go_ireturn (pc := 191) rfl dX3_done_191
  refine go_if (fun h2 => ?_) (fun h2 => ?_)
  · refine go_tableIn (pc := 1) (tgt := 134) 42 h2 dX3_done_1 (by decide) (by decide) rfl (by decide) ?_
    refine go_iload_n (pc := 134) (j := 1) (i := 1) dX3_done_134 rfl rfl ?_
    refine go_i2l (pc := 135) dX3_done_135 ?_
    refine go_iload_n (pc := 136) (j := 2) (i := 2) dX3_done_136 rfl rfl ?_
    refine go_i2l (pc := 137) dX3_done_137 ?_
    refine go_lmul (pc := 138) dX3_done_138  ?_
    refine go_callSI (pc := 139) (ct_X3_brought ((Int32.toInt64 p1) * (Int32.toInt64 p2))) lk_X3_428 rfl ⟨by decide, by decide⟩ (Nat.le_of_ble_eq_true rfl) dX3_done_139 rfl fun v1 u1 => ?_
    exact go_ireturn (pc := 142) rfl dX3_done_142
  refine go_if (fun h3 => ?_) (fun h3 => ?_)
  · refine go_tableIn (pc := 1) (tgt := 116) 43 h3 dX3_done_1 (by decide) (by decide) rfl (by decide) ?_
    refine go_iload_n (pc := 116) (j := 1) (i := 1) dX3_done_116 rfl rfl ?_
    refine go_i2l (pc := 117) dX3_done_117 ?_
    refine go_iload_n (pc := 118) (j := 2) (i := 2) dX3_done_118 rfl rfl ?_
    refine go_i2l (pc := 119) dX3_done_119 ?_
    refine go_ladd (pc := 120) dX3_done_120  ?_
    refine go_callSI (pc := 121) (ct_X3_brought ((Int32.toInt64 p1) + (Int32.toInt64 p2))) lk_X3_428 rfl ⟨by decide, by decide⟩ (Nat.le_of_ble_eq_true rfl) dX3_done_121 rfl fun v2 u2 => ?_
    exact go_ireturn (pc := 124) rfl dX3_done_124
  refine go_if (fun h4 => ?_) (fun h4 => ?_)
  · refine go_tableIn (pc := 1) (tgt := 125) 45 h4 dX3_done_1 (by decide) (by decide) rfl (by decide) ?_
    refine go_iload_n (pc := 125) (j := 1) (i := 1) dX3_done_125 rfl rfl ?_
    refine go_i2l (pc := 126) dX3_done_126 ?_
    refine go_iload_n (pc := 127) (j := 2) (i := 2) dX3_done_127 rfl rfl ?_
    refine go_i2l (pc := 128) dX3_done_128 ?_
    refine go_lsub (pc := 129) dX3_done_129  ?_
    refine go_callSI (pc := 130) (ct_X3_brought ((Int32.toInt64 p1) - (Int32.toInt64 p2))) lk_X3_428 rfl ⟨by decide, by decide⟩ (Nat.le_of_ble_eq_true rfl) dX3_done_130 rfl fun v3 u3 => ?_
    exact go_ireturn (pc := 133) rfl dX3_done_133
  refine go_if (fun h5 => ?_) (fun h5 => ?_)
  · refine go_tableIn (pc := 1) (tgt := 143) 47 h5 dX3_done_1 (by decide) (by decide) rfl (by decide) ?_
    refine go_iload_n (pc := 143) (j := 2) (i := 2) dX3_done_143 rfl rfl ?_
    refine go_if_ne (pc := 144) (tgt := 151) dX3_done_144 (by decide) (fun h6 => ?_) (fun h6 => ?_)
    · refine go_iconst (pc := 147) (v := 0) dX3_done_147 (by decide) ?_
      refine go_goto (pc := 148) (tgt := 154) dX3_done_148 (by decide) ?_
      exact go_ireturn (pc := 154) rfl dX3_done_154
    · refine go_iload_n (pc := 151) (j := 1) (i := 1) dX3_done_151 rfl rfl ?_
      refine go_iload_n (pc := 152) (j := 2) (i := 2) dX3_done_152 rfl rfl ?_
      refine go_gz fun h7 => ?_
      refine go_idiv (pc := 153) dX3_done_153 h7 ?_
      exact go_ireturn (pc := 154) rfl dX3_done_154
  refine go_if (fun h8 => ?_) (fun h8 => ?_)
  · refine go_tableIn (pc := 1) (tgt := 155) 60 h8 dX3_done_1 (by decide) (by decide) rfl (by decide) ?_
    refine go_iload_n (pc := 155) (j := 1) (i := 1) dX3_done_155 rfl rfl ?_
    refine go_iload_n (pc := 156) (j := 2) (i := 2) dX3_done_156 rfl rfl ?_
    refine go_icmp_ge (pc := 157) (tgt := 164) dX3_done_157 (by decide) (fun h9 => ?_) (fun h9 => ?_)
    · refine go_iconst (pc := 164) (v := 0) dX3_done_164 (by decide) ?_
      exact go_ireturn (pc := 165) rfl dX3_done_165
    · refine go_iconst (pc := 160) (v := 1) dX3_done_160 (by decide) ?_
      refine go_goto (pc := 161) (tgt := 165) dX3_done_161 (by decide) ?_
      exact go_ireturn (pc := 165) rfl dX3_done_165
  refine go_if (fun h10 => ?_) (fun h10 => ?_)
  · refine go_tableIn (pc := 1) (tgt := 177) 61 h10 dX3_done_1 (by decide) (by decide) rfl (by decide) ?_
    refine go_iload_n (pc := 177) (j := 1) (i := 1) dX3_done_177 rfl rfl ?_
    refine go_iload_n (pc := 178) (j := 2) (i := 2) dX3_done_178 rfl rfl ?_
    refine go_icmp_ne (pc := 179) (tgt := 186) dX3_done_179 (by decide) (fun h11 => ?_) (fun h11 => ?_)
    · refine go_iconst (pc := 182) (v := 1) dX3_done_182 (by decide) ?_
      refine go_goto (pc := 183) (tgt := 187) dX3_done_183 (by decide) ?_
      exact go_ireturn (pc := 187) rfl dX3_done_187
    · refine go_iconst (pc := 186) (v := 0) dX3_done_186 (by decide) ?_
      exact go_ireturn (pc := 187) rfl dX3_done_187
  refine go_if (fun h12 => ?_) (fun h12 => ?_)
  · refine go_tableIn (pc := 1) (tgt := 166) 62 h12 dX3_done_1 (by decide) (by decide) rfl (by decide) ?_
    refine go_iload_n (pc := 166) (j := 1) (i := 1) dX3_done_166 rfl rfl ?_
    refine go_iload_n (pc := 167) (j := 2) (i := 2) dX3_done_167 rfl rfl ?_
    refine go_icmp_le (pc := 168) (tgt := 175) dX3_done_168 (by decide) (fun h13 => ?_) (fun h13 => ?_)
    · refine go_iconst (pc := 175) (v := 0) dX3_done_175 (by decide) ?_
      exact go_ireturn (pc := 176) rfl dX3_done_176
    · refine go_iconst (pc := 171) (v := 1) dX3_done_171 (by decide) ?_
      refine go_goto (pc := 172) (tgt := 176) dX3_done_172 (by decide) ?_
      exact go_ireturn (pc := 176) rfl dX3_done_176
  refine go_tableD (pc := 1) (x := p0) (tgt := 192) dX3_done_1 (by decide) (fun a b => ?_) ?_
  · rcases (show Int32.toInt p0 = 38 ∨ Int32.toInt p0 = 39 ∨ Int32.toInt p0 = 40 ∨ Int32.toInt p0 = 41 ∨ Int32.toInt p0 = 42 ∨ Int32.toInt p0 = 43 ∨ Int32.toInt p0 = 44 ∨ Int32.toInt p0 = 45 ∨ Int32.toInt p0 = 46 ∨ Int32.toInt p0 = 47 ∨ Int32.toInt p0 = 48 ∨ Int32.toInt p0 = 49 ∨ Int32.toInt p0 = 50 ∨ Int32.toInt p0 = 51 ∨ Int32.toInt p0 = 52 ∨ Int32.toInt p0 = 53 ∨ Int32.toInt p0 = 54 ∨ Int32.toInt p0 = 55 ∨ Int32.toInt p0 = 56 ∨ Int32.toInt p0 = 57 ∨ Int32.toInt p0 = 58 ∨ Int32.toInt p0 = 59 ∨ Int32.toInt p0 = 60 ∨ Int32.toInt p0 = 61 ∨ Int32.toInt p0 = 62 by omega) with e | e | e | e | e | e | e | e | e | e | e | e | e | e | e | e | e | e | e | e | e | e | e | e | e
    · exact absurd (sw_eq (v := 38) (e.trans (by decide))) h1
    · rw [e]; rfl
    · rw [e]; rfl
    · rw [e]; rfl
    · exact absurd (sw_eq (v := 42) (e.trans (by decide))) h2
    · exact absurd (sw_eq (v := 43) (e.trans (by decide))) h3
    · rw [e]; rfl
    · exact absurd (sw_eq (v := 45) (e.trans (by decide))) h4
    · rw [e]; rfl
    · exact absurd (sw_eq (v := 47) (e.trans (by decide))) h5
    · rw [e]; rfl
    · rw [e]; rfl
    · rw [e]; rfl
    · rw [e]; rfl
    · rw [e]; rfl
    · rw [e]; rfl
    · rw [e]; rfl
    · rw [e]; rfl
    · rw [e]; rfl
    · rw [e]; rfl
    · rw [e]; rfl
    · rw [e]; rfl
    · exact absurd (sw_eq (v := 60) (e.trans (by decide))) h8
    · exact absurd (sw_eq (v := 61) (e.trans (by decide))) h10
    · exact absurd (sw_eq (v := 62) (e.trans (by decide))) h12
  · refine go_iload_n (pc := 192) (j := 1) (i := 1) dX3_done_192 rfl rfl ?_
    refine go_iload_n (pc := 193) (j := 2) (i := 2) dX3_done_193 rfl rfl ?_
    refine go_ior (pc := 194) dX3_done_194 ?_
    exact go_ireturn (pc := 195) rfl dX3_done_195

def f_X3_tells_L35 (x0 : Nat) (x1 : Int32) (x2 : Int32) : Nat → Int32 → Int32 → zM → Option (Int32 × zM)
  | 0, _, _, _ => none
  | n + 1, x3, x4, u => lt (mR u x0 49) fun r1 => oB r1 fun n1 => ix x2 (mN u n1) (lt (mR u n1 (xN x2)) fun r2 => oB r2 fun n2 => ix x1 (mN u n2) (if (mI u n2 (xN x1)) ≤ x4 then (lt (mR u x0 57) fun r3 => oB r3 fun n3 => ix 0 (mN u n3) (some ((mI u n3 (xN 0)), u))) else (lt (mR u x0 48) fun r4 => oB r4 fun n4 => ix x2 (mN u n4) (lt (mR u n4 (xN x2)) fun r5 => oB r5 fun n5 => ix x1 (mN u n5) (lt (mR u n5 (xN x1)) fun r6 => oB r6 fun n6 => ix (2 * x4) (mN u n6) (lt (mR u x0 48) fun r7 => oB r7 fun n7 => ix x2 (mN u n7) (lt (mR u n7 (xN x2)) fun r8 => oB r8 fun n8 => ix x1 (mN u n8) (lt (mR u n8 (xN x1)) fun r9 => oB r9 fun n9 => ix ((2 * x4) + 1) (mN u n9) (lt (fun (z1 : Int32) (u2 : zM) => f_X3_tells_L35 x0 x1 x2 n z1 (x4 + 1) u2) fun j1 => lt (fun (u3 : zM) => lt (mR u3 x0 57) fun r10 => lt (fun (z2 : Int32) (u4 : zM) => oB r10 fun n10 => ix x3 (mN u4 n10) (lt (sI u4 n10 (xN x3) z2) fun u5 => j1 (x3 + 1) u5)) fun j3 => if (mI u n6 (xN (2 * x4))) = 110 then (j3 (mI u n9 (xN ((2 * x4) + 1))) u3) else (lt (mR u3 x0 56) fun r11 => oB r11 fun n11 => ix (mI u n9 (xN ((2 * x4) + 1))) (mN u3 n11) (j3 (mI u3 n11 (xN (mI u n9 (xN ((2 * x4) + 1))))) u3))) fun j2 => if (mI u n6 (xN (2 * x4))) = 110 then (j2 u) else (if (mI u n6 (xN (2 * x4))) = 118 then (j2 u) else (if (mI u n6 (xN (2 * x4))) = 33 then (lt (mR u x0 57) fun r12 => lt (mR u x0 57) fun r13 => oB r13 fun n12 => ix (x3 - 1) (mN u n12) (oB r12 fun n13 => ix (x3 - 1) (mN u n13) (lt (sI u n13 (xN (x3 - 1)) (1 - (mI u n12 (xN (x3 - 1))))) fun u6 => j1 x3 u6))) else (lt (mR u x0 57) fun r14 => lt (mR u x0 57) fun r15 => oB r15 fun n14 => ix (x3 - 2) (mN u n14) (lt (mR u x0 57) fun r16 => oB r16 fun n15 => ix (x3 - 1) (mN u n15) (bd (f_X3_done (mI u n6 (xN (2 * x4))) (mI u n14 (xN (x3 - 2))) (mI u n15 (xN (x3 - 1))) u) fun v2 u7 => oB r14 fun n16 => ix (x3 - 2) (mN u7 n16) (lt (sI u7 n16 (xN (x3 - 2)) v2) fun u8 => j1 (x3 + (-1)) u8)))))))))))))))
section
variable {c0 s0 : Nat} {tbv : List ExceptionTableEntry}
set_option maxHeartbeats 4000000 in
theorem g_X3_tells_L35 (x0 : Nat) (x1 : Int32) (x2 : Int32) (t_x0 : kd x0 = 3) : ∀ (n : Nat) (x3 : Int32) (x4 : Int32) (u : zM), Go RX3 cX3_tells 7 (some .int) false 3 43 [] (obT) (zQ rvI) c0 s0 35 [(0, .ref x0), (1, .int x1), (2, .int x2), (3, .int x3), (4, .int x4)] [] [] u (f_X3_tells_L35 x0 x1 x2 n x3 x4 u) := by
  intro n
  induction n with
  | zero => intros; exact go_none
  | succ n ih =>
    intro x3 x4 u
    unfold f_X3_tells_L35
    refine go_iload (pc := 35) (i := 4) dX3_tells_35 rfl ?_
    refine go_aload_n (pc := 37) (j := 0) (i := 0) dX3_tells_37 rfl rfl ?_
    refine go_getR (pc := 38) (n := x0) (ci := 3) (k := 49) (t := 23) fa_X3_130_3 t_x0 rfl dX3_tells_38 fun r1 t_r1 => ?_
    refine go_iload_n (pc := 41) (j := 2) (i := 2) dX3_tells_41 rfl rfl ?_
    refine go_oB fun n1 e_n1 => ?_
    have t_n1 := t_r1 n1 e_n1
    subst e_n1
    refine go_aald (pc := 42) (n := n1) (ci := 23) (t := 13) (by decide) (by decide) t_n1 rfl dX3_tells_42 fun r2 t_r2 => ?_
    refine go_iload_n (pc := 43) (j := 1) (i := 1) dX3_tells_43 rfl rfl ?_
    refine go_oB fun n2 e_n2 => ?_
    have t_n2 := t_r2 n2 e_n2
    subst e_n2
    refine go_iald (pc := 44) t_n2 dX3_tells_44 ?_
    refine go_icmp_ge (pc := 45) (tgt := 191) dX3_tells_45 (by decide) (fun h4 => ?_) (fun h4 => ?_)
    · refine go_aload_n (pc := 191) (j := 0) (i := 0) dX3_tells_191 rfl rfl ?_
      refine go_getR (pc := 192) (n := x0) (ci := 3) (k := 57) (t := 13) fa_X3_182_3 t_x0 rfl dX3_tells_192 fun r3 t_r3 => ?_
      refine go_iconst (pc := 195) (v := 0) dX3_tells_195 (by decide) ?_
      refine go_oB fun n3 e_n3 => ?_
      have t_n3 := t_r3 n3 e_n3
      subst e_n3
      refine go_iald (pc := 196) t_n3 dX3_tells_196 ?_
      exact go_ireturn (pc := 197) rfl dX3_tells_197
    · refine go_aload_n (pc := 48) (j := 0) (i := 0) dX3_tells_48 rfl rfl ?_
      refine go_getR (pc := 49) (n := x0) (ci := 3) (k := 48) (t := 24) fa_X3_127_3 t_x0 rfl dX3_tells_49 fun r4 t_r4 => ?_
      refine go_iload_n (pc := 52) (j := 2) (i := 2) dX3_tells_52 rfl rfl ?_
      refine go_oB fun n4 e_n4 => ?_
      have t_n4 := t_r4 n4 e_n4
      subst e_n4
      refine go_aald (pc := 53) (n := n4) (ci := 24) (t := 23) (by decide) (by decide) t_n4 rfl dX3_tells_53 fun r5 t_r5 => ?_
      refine go_iload_n (pc := 54) (j := 1) (i := 1) dX3_tells_54 rfl rfl ?_
      refine go_oB fun n5 e_n5 => ?_
      have t_n5 := t_r5 n5 e_n5
      subst e_n5
      refine go_aald (pc := 55) (n := n5) (ci := 23) (t := 13) (by decide) (by decide) t_n5 rfl dX3_tells_55 fun r6 t_r6 => ?_
      refine go_iconst (pc := 56) (v := 2) dX3_tells_56 (by decide) ?_
      refine go_iload (pc := 57) (i := 4) dX3_tells_57 rfl ?_
      refine go_imul (pc := 59) dX3_tells_59 ?_
      refine go_oB fun n6 e_n6 => ?_
      have t_n6 := t_r6 n6 e_n6
      subst e_n6
      refine go_iald (pc := 60) t_n6 dX3_tells_60 ?_
      refine go_istore (pc := 61) (i := 5) (A' := [(0, .ref x0), (1, .int x1), (2, .int x2), (3, .int x3), (4, .int x4), (5, .int (mI u n6 (xN (2 * x4))))]) (by decide) rfl rfl rfl dX3_tells_61 ?_
      refine go_aload_n (pc := 63) (j := 0) (i := 0) dX3_tells_63 rfl rfl ?_
      refine go_getR (pc := 64) (n := x0) (ci := 3) (k := 48) (t := 24) fa_X3_127_3 t_x0 rfl dX3_tells_64 fun r7 t_r7 => ?_
      refine go_iload_n (pc := 67) (j := 2) (i := 2) dX3_tells_67 rfl rfl ?_
      refine go_oB fun n7 e_n7 => ?_
      have t_n7 := t_r7 n7 e_n7
      subst e_n7
      refine go_aald (pc := 68) (n := n7) (ci := 24) (t := 23) (by decide) (by decide) t_n7 rfl dX3_tells_68 fun r8 t_r8 => ?_
      refine go_iload_n (pc := 69) (j := 1) (i := 1) dX3_tells_69 rfl rfl ?_
      refine go_oB fun n8 e_n8 => ?_
      have t_n8 := t_r8 n8 e_n8
      subst e_n8
      refine go_aald (pc := 70) (n := n8) (ci := 23) (t := 13) (by decide) (by decide) t_n8 rfl dX3_tells_70 fun r9 t_r9 => ?_
      refine go_iconst (pc := 71) (v := 2) dX3_tells_71 (by decide) ?_
      refine go_iload (pc := 72) (i := 4) dX3_tells_72 rfl ?_
      refine go_imul (pc := 74) dX3_tells_74 ?_
      refine go_iconst (pc := 75) (v := 1) dX3_tells_75 (by decide) ?_
      refine go_iadd (pc := 76) dX3_tells_76 ?_
      refine go_oB fun n9 e_n9 => ?_
      have t_n9 := t_r9 n9 e_n9
      subst e_n9
      refine go_iald (pc := 77) t_n9 dX3_tells_77 ?_
      refine go_istore (pc := 78) (i := 6) (A' := [(0, .ref x0), (1, .int x1), (2, .int x2), (3, .int x3), (4, .int x4), (5, .int (mI u n6 (xN (2 * x4)))), (6, .int (mI u n9 (xN ((2 * x4) + 1))))]) (by decide) rfl rfl rfl dX3_tells_78 ?_
      refine go_iload (pc := 80) (i := 5) dX3_tells_80 rfl ?_
      refine go_bipush (pc := 82) (v := 110) dX3_tells_82 (by decide) ?_
      refine go_join1 (pcx := 185) (α1 := Int32) (fun z1 => [(0, .ref x0), (1, .int x1), (2, .int x2), (3, .int z1), (4, .int x4)]) (fun z1 => []) (fun z1 => []) (fun z1 => True) (fun z1 u2 _ => ?_) (fun j1 hj1 => ?_)
      · refine go_iinc (pc := 185) (i := 4) (w := 1) (A' := [(0, .ref x0), (1, .int x1), (2, .int x2), (3, .int z1), (4, .int (x4 + 1))]) rfl (by decide) (by decide) rfl rfl rfl dX3_tells_185 ?_
        refine go_goto (pc := 188) (tgt := 35) dX3_tells_188 (by decide) ?_
        exact go_weak (A' := [(0, .ref x0), (1, .int x1), (2, .int x2), (3, .int z1), (4, .int (x4 + 1))]) (B' := []) ⟨rfl, rfl, rfl, rfl, rfl, trivial⟩ rfl (fun q h => by cases h) (ih z1 (x4 + 1) u2)
      · refine go_join0 (pcx := 94) ([(0, .ref x0), (1, .int x1), (2, .int x2), (3, .int x3), (4, .int x4), (5, .int (mI u n6 (xN (2 * x4)))), (6, .int (mI u n9 (xN ((2 * x4) + 1))))]) ([]) ([]) (True) (fun u3 _ => ?_) (fun j2 hj2 => ?_)
        · refine go_aload_n (pc := 94) (j := 0) (i := 0) dX3_tells_94 rfl rfl ?_
          refine go_getR (pc := 95) (n := x0) (ci := 3) (k := 57) (t := 13) fa_X3_182_3 t_x0 rfl dX3_tells_95 fun r10 t_r10 => ?_
          refine go_iload_n (pc := 98) (j := 3) (i := 3) dX3_tells_98 rfl rfl ?_
          refine go_iload (pc := 99) (i := 5) dX3_tells_99 rfl ?_
          refine go_bipush (pc := 101) (v := 110) dX3_tells_101 (by decide) ?_
          refine go_join1 (pcx := 118) (α1 := Int32) (fun z2 => [(0, .ref x0), (1, .int x1), (2, .int x2), (3, .int x3), (4, .int x4)]) (fun z2 => []) (fun z2 => [.int z2, .int x3, va_rf r10]) (fun z2 => True) (fun z2 u4 _ => ?_) (fun j3 hj3 => ?_)
          · refine go_oB fun n10 e_n10 => ?_
            have t_n10 := t_r10 n10 e_n10
            subst e_n10
            refine go_iast (pc := 118) t_n10 dX3_tells_118 fun u5 => ?_
            refine go_iinc (pc := 119) (i := 3) (w := 1) (A' := [(0, .ref x0), (1, .int x1), (2, .int x2), (3, .int (x3 + 1)), (4, .int x4)]) rfl (by decide) (by decide) rfl rfl rfl dX3_tells_119 ?_
            refine go_goto (pc := 122) (tgt := 185) dX3_tells_122 (by decide) ?_
            exact go_weak (A' := [(0, .ref x0), (1, .int x1), (2, .int x2), (3, .int (x3 + 1)), (4, .int x4)]) (B' := []) ⟨rfl, rfl, rfl, rfl, rfl, trivial⟩ rfl (fun q h => by cases h) (hj1 (x3 + 1) u5 trivial)
          · refine go_icmp_ne (pc := 103) (tgt := 111) dX3_tells_103 (by decide) (fun h5 => ?_) (fun h5 => ?_)
            · refine go_iload (pc := 106) (i := 6) dX3_tells_106 rfl ?_
              refine go_goto (pc := 108) (tgt := 118) dX3_tells_108 (by decide) ?_
              exact go_weak (A' := [(0, .ref x0), (1, .int x1), (2, .int x2), (3, .int x3), (4, .int x4)]) (B' := []) ⟨rfl, rfl, rfl, rfl, rfl, trivial⟩ rfl (fun q h => by cases h) (hj3 (mI u n9 (xN ((2 * x4) + 1))) u3 trivial)
            · refine go_aload_n (pc := 111) (j := 0) (i := 0) dX3_tells_111 rfl rfl ?_
              refine go_getR (pc := 112) (n := x0) (ci := 3) (k := 56) (t := 13) fa_X3_179_3 t_x0 rfl dX3_tells_112 fun r11 t_r11 => ?_
              refine go_iload (pc := 115) (i := 6) dX3_tells_115 rfl ?_
              refine go_oB fun n11 e_n11 => ?_
              have t_n11 := t_r11 n11 e_n11
              subst e_n11
              refine go_iald (pc := 117) t_n11 dX3_tells_117 ?_
              exact go_weak (A' := [(0, .ref x0), (1, .int x1), (2, .int x2), (3, .int x3), (4, .int x4)]) (B' := []) ⟨rfl, rfl, rfl, rfl, rfl, trivial⟩ rfl (fun q h => by cases h) (hj3 (mI u3 n11 (xN (mI u n9 (xN ((2 * x4) + 1))))) u3 trivial)
        · refine go_icmp_eq (pc := 84) (tgt := 94) dX3_tells_84 (by decide) (fun h6 => ?_) (fun h6 => ?_)
          · exact go_weak (A' := [(0, .ref x0), (1, .int x1), (2, .int x2), (3, .int x3), (4, .int x4), (5, .int (mI u n6 (xN (2 * x4)))), (6, .int (mI u n9 (xN ((2 * x4) + 1))))]) (B' := []) ⟨rfl, rfl, rfl, rfl, rfl, rfl, rfl, trivial⟩ rfl (fun q h => by cases h) (hj2 u trivial)
          · refine go_iload (pc := 87) (i := 5) dX3_tells_87 rfl ?_
            refine go_bipush (pc := 89) (v := 118) dX3_tells_89 (by decide) ?_
            refine go_icmp_ne (pc := 91) (tgt := 125) dX3_tells_91 (by decide) (fun h7 => ?_) (fun h7 => ?_)
            · exact go_weak (A' := [(0, .ref x0), (1, .int x1), (2, .int x2), (3, .int x3), (4, .int x4), (5, .int (mI u n6 (xN (2 * x4)))), (6, .int (mI u n9 (xN ((2 * x4) + 1))))]) (B' := []) ⟨rfl, rfl, rfl, rfl, rfl, rfl, rfl, trivial⟩ rfl (fun q h => by cases h) (hj2 u trivial)
            · refine go_iload (pc := 125) (i := 5) dX3_tells_125 rfl ?_
              refine go_bipush (pc := 127) (v := 33) dX3_tells_127 (by decide) ?_
              refine go_icmp_ne (pc := 129) (tgt := 153) dX3_tells_129 (by decide) (fun h8 => ?_) (fun h8 => ?_)
              · refine go_aload_n (pc := 132) (j := 0) (i := 0) dX3_tells_132 rfl rfl ?_
                refine go_getR (pc := 133) (n := x0) (ci := 3) (k := 57) (t := 13) fa_X3_182_3 t_x0 rfl dX3_tells_133 fun r12 t_r12 => ?_
                refine go_iload_n (pc := 136) (j := 3) (i := 3) dX3_tells_136 rfl rfl ?_
                refine go_iconst (pc := 137) (v := 1) dX3_tells_137 (by decide) ?_
                refine go_isub (pc := 138) dX3_tells_138 ?_
                refine go_iconst (pc := 139) (v := 1) dX3_tells_139 (by decide) ?_
                refine go_aload_n (pc := 140) (j := 0) (i := 0) dX3_tells_140 rfl rfl ?_
                refine go_getR (pc := 141) (n := x0) (ci := 3) (k := 57) (t := 13) fa_X3_182_3 t_x0 rfl dX3_tells_141 fun r13 t_r13 => ?_
                refine go_iload_n (pc := 144) (j := 3) (i := 3) dX3_tells_144 rfl rfl ?_
                refine go_iconst (pc := 145) (v := 1) dX3_tells_145 (by decide) ?_
                refine go_isub (pc := 146) dX3_tells_146 ?_
                refine go_oB fun n12 e_n12 => ?_
                have t_n12 := t_r13 n12 e_n12
                subst e_n12
                refine go_iald (pc := 147) t_n12 dX3_tells_147 ?_
                refine go_isub (pc := 148) dX3_tells_148 ?_
                refine go_oB fun n13 e_n13 => ?_
                have t_n13 := t_r12 n13 e_n13
                subst e_n13
                refine go_iast (pc := 149) t_n13 dX3_tells_149 fun u6 => ?_
                refine go_goto (pc := 150) (tgt := 185) dX3_tells_150 (by decide) ?_
                exact go_weak (A' := [(0, .ref x0), (1, .int x1), (2, .int x2), (3, .int x3), (4, .int x4)]) (B' := []) ⟨rfl, rfl, rfl, rfl, rfl, trivial⟩ rfl (fun q h => by cases h) (hj1 x3 u6 trivial)
              · refine go_aload_n (pc := 153) (j := 0) (i := 0) dX3_tells_153 rfl rfl ?_
                refine go_getR (pc := 154) (n := x0) (ci := 3) (k := 57) (t := 13) fa_X3_182_3 t_x0 rfl dX3_tells_154 fun r14 t_r14 => ?_
                refine go_iload_n (pc := 157) (j := 3) (i := 3) dX3_tells_157 rfl rfl ?_
                refine go_iconst (pc := 158) (v := 2) dX3_tells_158 (by decide) ?_
                refine go_isub (pc := 159) dX3_tells_159 ?_
                refine go_iload (pc := 160) (i := 5) dX3_tells_160 rfl ?_
                refine go_aload_n (pc := 162) (j := 0) (i := 0) dX3_tells_162 rfl rfl ?_
                refine go_getR (pc := 163) (n := x0) (ci := 3) (k := 57) (t := 13) fa_X3_182_3 t_x0 rfl dX3_tells_163 fun r15 t_r15 => ?_
                refine go_iload_n (pc := 166) (j := 3) (i := 3) dX3_tells_166 rfl rfl ?_
                refine go_iconst (pc := 167) (v := 2) dX3_tells_167 (by decide) ?_
                refine go_isub (pc := 168) dX3_tells_168 ?_
                refine go_oB fun n14 e_n14 => ?_
                have t_n14 := t_r15 n14 e_n14
                subst e_n14
                refine go_iald (pc := 169) t_n14 dX3_tells_169 ?_
                refine go_aload_n (pc := 170) (j := 0) (i := 0) dX3_tells_170 rfl rfl ?_
                refine go_getR (pc := 171) (n := x0) (ci := 3) (k := 57) (t := 13) fa_X3_182_3 t_x0 rfl dX3_tells_171 fun r16 t_r16 => ?_
                refine go_iload_n (pc := 174) (j := 3) (i := 3) dX3_tells_174 rfl rfl ?_
                refine go_iconst (pc := 175) (v := 1) dX3_tells_175 (by decide) ?_
                refine go_isub (pc := 176) dX3_tells_176 ?_
                refine go_oB fun n15 e_n15 => ?_
                have t_n15 := t_r16 n15 e_n15
                subst e_n15
                refine go_iald (pc := 177) t_n15 dX3_tells_177 ?_
                refine go_callSI (pc := 178) (ct_X3_done (mI u n6 (xN (2 * x4))) (mI u n14 (xN (x3 - 2))) (mI u n15 (xN (x3 - 1)))) lk_X3_432 rfl ⟨by decide, by decide⟩ (by simp [cat_rf, cat_int, cat_ref, cat_long]) dX3_tells_178 rfl fun v2 u7 => ?_
                refine go_oB fun n16 e_n16 => ?_
                have t_n16 := t_r14 n16 e_n16
                subst e_n16
                refine go_iast (pc := 181) t_n16 dX3_tells_181 fun u8 => ?_
                refine go_iinc (pc := 182) (i := 3) (w := (-1)) (A' := [(0, .ref x0), (1, .int x1), (2, .int x2), (3, .int (x3 + (-1))), (4, .int x4), (5, .int (mI u n6 (xN (2 * x4)))), (6, .int (mI u n9 (xN ((2 * x4) + 1))))]) rfl (by decide) (by decide) rfl rfl rfl dX3_tells_182 ?_
                exact go_weak (A' := [(0, .ref x0), (1, .int x1), (2, .int x2), (3, .int (x3 + (-1))), (4, .int x4)]) (B' := []) ⟨rfl, rfl, rfl, rfl, rfl, trivial⟩ rfl (fun q h => by cases h) (hj1 (x3 + (-1)) u8 trivial)
end
def f_X3_tells (self : Nat) (p0 : Int32) (u : zM) : Option (Int32 × zM) := bd (f_X3_sheetFor self p0 (mI u self 0) u) fun v1 u1 => if v1 = (-1) then (if p0 = 0 then (some (0, u1)) else (if p0 = 2 then (some (0, u1)) else (some (1, u1)))) else (f_X3_tells_L35 self p0 v1 zFu 0 0 u1)
set_option maxHeartbeats 4000000 in
theorem ct_X3_tells (self : Nat) (p0 : Int32) (t_self : kd self = 3) : zMet yX3_tells cX3_tells 7 (some .int) 3 43 rvI (obT) [.ref self, .int p0] (f_X3_tells self p0) := by
  refine zMet_of (A := [(0, .ref self), (1, .int p0)]) (B := []) (ini := false) RX3 rfl (by decide +kernel) (fun h => by cases h) (by simp [lg_sl, Value.category]) (by simp [lv_args, Value.category]) rfl (by simp [lv_args, Value.category]) fun u => ?_
  unfold f_X3_tells
  refine go_aload_n (pc := 0) (j := 0) (i := 0) dX3_tells_0 rfl rfl ?_
  refine go_iload_n (pc := 1) (j := 1) (i := 1) dX3_tells_1 rfl rfl ?_
  refine go_aload_n (pc := 2) (j := 0) (i := 0) dX3_tells_2 rfl rfl ?_
  refine go_getI (pc := 3) (n := self) (ci := 3) (k := 0) fa_X3_286_3 t_self rfl dX3_tells_3 ?_
  refine go_callVI (pc := 6) (ci := 3) (ct_X3_sheetFor self p0 (mI u self 0) t_self) lk_X3_421 rfl rfl rfl (by decide) t_self ⟨by decide, by decide⟩ (Nat.le_of_ble_eq_true rfl) dX3_tells_6 rfl fun v1 u1 => ?_
  refine go_istore_n (pc := 9) (j := 2) (i := 2) (A' := [(0, .ref self), (1, .int p0), (2, .int v1)]) rfl (by decide) rfl rfl rfl dX3_tells_9 ?_
  refine go_iload_n (pc := 10) (j := 2) (i := 2) dX3_tells_10 rfl rfl ?_
  refine go_iconst (pc := 11) (v := (-1)) dX3_tells_11 (by decide) ?_
  refine go_icmp_ne (pc := 12) (tgt := 30) dX3_tells_12 (by decide) (fun h1 => ?_) (fun h1 => ?_)
  · refine go_iload_n (pc := 15) (j := 1) (i := 1) dX3_tells_15 rfl rfl ?_
    refine go_if_eq (pc := 16) (tgt := 24) dX3_tells_16 (by decide) (fun h2 => ?_) (fun h2 => ?_)
    · refine go_iconst (pc := 24) (v := 0) dX3_tells_24 (by decide) ?_
      refine go_goto (pc := 25) (tgt := 29) dX3_tells_25 (by decide) ?_
      exact go_ireturn (pc := 29) rfl dX3_tells_29
    · refine go_iload_n (pc := 19) (j := 1) (i := 1) dX3_tells_19 rfl rfl ?_
      refine go_iconst (pc := 20) (v := 2) dX3_tells_20 (by decide) ?_
      refine go_icmp_ne (pc := 21) (tgt := 28) dX3_tells_21 (by decide) (fun h3 => ?_) (fun h3 => ?_)
      · refine go_iconst (pc := 24) (v := 0) dX3_tells_24 (by decide) ?_
        refine go_goto (pc := 25) (tgt := 29) dX3_tells_25 (by decide) ?_
        exact go_ireturn (pc := 29) rfl dX3_tells_29
      · refine go_iconst (pc := 28) (v := 1) dX3_tells_28 (by decide) ?_
        exact go_ireturn (pc := 29) rfl dX3_tells_29
  · refine go_iconst (pc := 30) (v := 0) dX3_tells_30 (by decide) ?_
    refine go_istore_n (pc := 31) (j := 3) (i := 3) (A' := [(0, .ref self), (1, .int p0), (2, .int v1), (3, .int 0)]) rfl (by decide) rfl rfl rfl dX3_tells_31 ?_
    refine go_iconst (pc := 32) (v := 0) dX3_tells_32 (by decide) ?_
    refine go_istore (pc := 33) (i := 4) (A' := [(0, .ref self), (1, .int p0), (2, .int v1), (3, .int 0), (4, .int 0)]) (by decide) rfl rfl rfl dX3_tells_33 ?_
    exact go_weak (A' := [(0, .ref self), (1, .int p0), (2, .int v1), (3, .int 0), (4, .int 0)]) (B' := []) ⟨rfl, rfl, rfl, rfl, rfl, trivial⟩ rfl (fun q h => by cases h) (g_X3_tells_L35 self p0 v1 t_self zFu 0 0 u1)

def f_X3_barOf (self : Nat) (p0 : Int32) (p1 : Int32) (p2 : Int32) (u : zM) : Option (Int32 × zM) := bd (f_X3_hasLoom self p0 u) fun v1 u1 => if v1 = 0 then (some (1, u1)) else (lt (mR u1 self 60) fun r1 => oB r1 fun n1 => ix p1 (mN u1 n1) (lt (mR u1 self 30) fun r2 => oB r2 fun n2 => ix p0 (mN u1 n2) (lt (mR u1 self 31) fun r3 => oB r3 fun n3 => ix p0 (mN u1 n3) (bd (f_X3_in (Int32.toInt64 (mI u1 n1 (xN p1))) (Int32.toInt64 (mI u1 n2 (xN p0))) (Int32.toInt64 (mI u1 n3 (xN p0))) u1) fun v2 u2 => if v2 = 0 then (some (2, u2)) else (lt (mR u2 self 61) fun r4 => oB r4 fun n4 => ix p1 (mN u2 n4) (lt (mR u2 self 60) fun r5 => oB r5 fun n5 => ix p1 (mN u2 n5) (if ((mI u2 n5 (xN p1)) + 30) ≤ (mI u2 n4 (xN p1)) then (lt (mR u2 self 20) fun r6 => lt (mR u2 self 58) fun r7 => oB r7 fun n6 => ix p1 (mN u2 n6) (oB r6 fun n7 => ix (mI u2 n6 (xN p1)) (mN u2 n7) (lt (mR u2 self 20) fun r8 => oB r8 fun n8 => ix p0 (mN u2 n8) (bd (f_X3_farOf self (mI u2 n7 (xN (mI u2 n6 (xN p1)))) (mI u2 n8 (xN p0)) u2) fun v3 u3 => if v3 = (-1) then (some (4, u3)) else (bd (f_X3_asksOf self p0 p1 p2 u3) fun v4 u4 => bd (f_X3_tells self 3 u4) fun v5 u5 => if v5 = 1 then (some (0, u5)) else (some (5, u5))))))) else (some (3, u2)))))))))
set_option maxHeartbeats 4000000 in
theorem ct_X3_barOf (self : Nat) (p0 : Int32) (p1 : Int32) (p2 : Int32) (t_self : kd self = 3) : zMet yX3_barOf cX3_barOf 4 (some .int) 6 111 rvI (obT) [.ref self, .int p0, .int p1, .int p2] (f_X3_barOf self p0 p1 p2) := by
  refine zMet_of (A := [(0, .ref self), (1, .int p0), (2, .int p1), (3, .int p2)]) (B := []) (ini := false) RX3 rfl (by decide +kernel) (fun h => by cases h) (by simp [lg_sl, Value.category]) (by simp [lv_args, Value.category]) rfl (by simp [lv_args, Value.category]) fun u => ?_
  unfold f_X3_barOf
  refine go_aload_n (pc := 0) (j := 0) (i := 0) dX3_barOf_0 rfl rfl ?_
  refine go_iload_n (pc := 1) (j := 1) (i := 1) dX3_barOf_1 rfl rfl ?_
  refine go_callVI (pc := 2) (ci := 3) (ct_X3_hasLoom self p0 t_self) lk_X3_300 rfl rfl rfl (by decide) t_self ⟨by decide, by decide⟩ (Nat.le_of_ble_eq_true rfl) dX3_barOf_2 rfl fun v1 u1 => ?_
  refine go_if_ne (pc := 5) (tgt := 10) dX3_barOf_5 (by decide) (fun h1 => ?_) (fun h1 => ?_)
  · refine go_iconst (pc := 8) (v := 1) dX3_barOf_8 (by decide) ?_
    exact go_ireturn (pc := 9) rfl dX3_barOf_9
  · refine go_aload_n (pc := 10) (j := 0) (i := 0) dX3_barOf_10 rfl rfl ?_
    refine go_getR (pc := 11) (n := self) (ci := 3) (k := 60) (t := 13) fa_X3_191_3 t_self rfl dX3_barOf_11 fun r1 t_r1 => ?_
    refine go_iload_n (pc := 14) (j := 2) (i := 2) dX3_barOf_14 rfl rfl ?_
    refine go_oB fun n1 e_n1 => ?_
    have t_n1 := t_r1 n1 e_n1
    subst e_n1
    refine go_iald (pc := 15) t_n1 dX3_barOf_15 ?_
    refine go_i2l (pc := 16) dX3_barOf_16 ?_
    refine go_aload_n (pc := 17) (j := 0) (i := 0) dX3_barOf_17 rfl rfl ?_
    refine go_getR (pc := 18) (n := self) (ci := 3) (k := 30) (t := 13) fa_X3_93_3 t_self rfl dX3_barOf_18 fun r2 t_r2 => ?_
    refine go_iload_n (pc := 21) (j := 1) (i := 1) dX3_barOf_21 rfl rfl ?_
    refine go_oB fun n2 e_n2 => ?_
    have t_n2 := t_r2 n2 e_n2
    subst e_n2
    refine go_iald (pc := 22) t_n2 dX3_barOf_22 ?_
    refine go_i2l (pc := 23) dX3_barOf_23 ?_
    refine go_aload_n (pc := 24) (j := 0) (i := 0) dX3_barOf_24 rfl rfl ?_
    refine go_getR (pc := 25) (n := self) (ci := 3) (k := 31) (t := 13) fa_X3_96_3 t_self rfl dX3_barOf_25 fun r3 t_r3 => ?_
    refine go_iload_n (pc := 28) (j := 1) (i := 1) dX3_barOf_28 rfl rfl ?_
    refine go_oB fun n3 e_n3 => ?_
    have t_n3 := t_r3 n3 e_n3
    subst e_n3
    refine go_iald (pc := 29) t_n3 dX3_barOf_29 ?_
    refine go_i2l (pc := 30) dX3_barOf_30 ?_
    refine go_callSI (pc := 31) (ct_X3_in (Int32.toInt64 (mI u1 n1 (xN p1))) (Int32.toInt64 (mI u1 n2 (xN p0))) (Int32.toInt64 (mI u1 n3 (xN p0)))) lk_X3_274 rfl ⟨by decide, by decide⟩ (Nat.le_of_ble_eq_true rfl) dX3_barOf_31 rfl fun v2 u2 => ?_
    refine go_if_ne (pc := 34) (tgt := 39) dX3_barOf_34 (by decide) (fun h2 => ?_) (fun h2 => ?_)
    · refine go_iconst (pc := 37) (v := 2) dX3_barOf_37 (by decide) ?_
      exact go_ireturn (pc := 38) rfl dX3_barOf_38
    · refine go_aload_n (pc := 39) (j := 0) (i := 0) dX3_barOf_39 rfl rfl ?_
      refine go_getR (pc := 40) (n := self) (ci := 3) (k := 61) (t := 13) fa_X3_194_3 t_self rfl dX3_barOf_40 fun r4 t_r4 => ?_
      refine go_iload_n (pc := 43) (j := 2) (i := 2) dX3_barOf_43 rfl rfl ?_
      refine go_oB fun n4 e_n4 => ?_
      have t_n4 := t_r4 n4 e_n4
      subst e_n4
      refine go_iald (pc := 44) t_n4 dX3_barOf_44 ?_
      refine go_aload_n (pc := 45) (j := 0) (i := 0) dX3_barOf_45 rfl rfl ?_
      refine go_getR (pc := 46) (n := self) (ci := 3) (k := 60) (t := 13) fa_X3_191_3 t_self rfl dX3_barOf_46 fun r5 t_r5 => ?_
      refine go_iload_n (pc := 49) (j := 2) (i := 2) dX3_barOf_49 rfl rfl ?_
      refine go_oB fun n5 e_n5 => ?_
      have t_n5 := t_r5 n5 e_n5
      subst e_n5
      refine go_iald (pc := 50) t_n5 dX3_barOf_50 ?_
      refine go_bipush (pc := 51) (v := 30) dX3_barOf_51 (by decide) ?_
      refine go_iadd (pc := 53) dX3_barOf_53 ?_
      refine go_icmp_ge (pc := 54) (tgt := 59) dX3_barOf_54 (by decide) (fun h3 => ?_) (fun h3 => ?_)
      · refine go_aload_n (pc := 59) (j := 0) (i := 0) dX3_barOf_59 rfl rfl ?_
        refine go_aload_n (pc := 60) (j := 0) (i := 0) dX3_barOf_60 rfl rfl ?_
        refine go_getR (pc := 61) (n := self) (ci := 3) (k := 20) (t := 13) fa_X3_63_3 t_self rfl dX3_barOf_61 fun r6 t_r6 => ?_
        refine go_aload_n (pc := 64) (j := 0) (i := 0) dX3_barOf_64 rfl rfl ?_
        refine go_getR (pc := 65) (n := self) (ci := 3) (k := 58) (t := 13) fa_X3_185_3 t_self rfl dX3_barOf_65 fun r7 t_r7 => ?_
        refine go_iload_n (pc := 68) (j := 2) (i := 2) dX3_barOf_68 rfl rfl ?_
        refine go_oB fun n6 e_n6 => ?_
        have t_n6 := t_r7 n6 e_n6
        subst e_n6
        refine go_iald (pc := 69) t_n6 dX3_barOf_69 ?_
        refine go_oB fun n7 e_n7 => ?_
        have t_n7 := t_r6 n7 e_n7
        subst e_n7
        refine go_iald (pc := 70) t_n7 dX3_barOf_70 ?_
        refine go_aload_n (pc := 71) (j := 0) (i := 0) dX3_barOf_71 rfl rfl ?_
        refine go_getR (pc := 72) (n := self) (ci := 3) (k := 20) (t := 13) fa_X3_63_3 t_self rfl dX3_barOf_72 fun r8 t_r8 => ?_
        refine go_iload_n (pc := 75) (j := 1) (i := 1) dX3_barOf_75 rfl rfl ?_
        refine go_oB fun n8 e_n8 => ?_
        have t_n8 := t_r8 n8 e_n8
        subst e_n8
        refine go_iald (pc := 76) t_n8 dX3_barOf_76 ?_
        refine go_callVI (pc := 77) (ci := 3) (ct_X3_farOf self (mI u2 n7 (xN (mI u2 n6 (xN p1)))) (mI u2 n8 (xN p0)) t_self) lk_X3_293 rfl rfl rfl (by decide) t_self ⟨by decide, by decide⟩ (Nat.le_of_ble_eq_true rfl) dX3_barOf_77 rfl fun v3 u3 => ?_
        refine go_iconst (pc := 80) (v := (-1)) dX3_barOf_80 (by decide) ?_
        refine go_icmp_ne (pc := 81) (tgt := 86) dX3_barOf_81 (by decide) (fun h4 => ?_) (fun h4 => ?_)
        · refine go_iconst (pc := 84) (v := 4) dX3_barOf_84 (by decide) ?_
          exact go_ireturn (pc := 85) rfl dX3_barOf_85
        · refine go_aload_n (pc := 86) (j := 0) (i := 0) dX3_barOf_86 rfl rfl ?_
          refine go_iload_n (pc := 87) (j := 1) (i := 1) dX3_barOf_87 rfl rfl ?_
          refine go_iload_n (pc := 88) (j := 2) (i := 2) dX3_barOf_88 rfl rfl ?_
          refine go_iload_n (pc := 89) (j := 3) (i := 3) dX3_barOf_89 rfl rfl ?_
          refine go_callVV (pc := 90) (ci := 3) (ct_X3_asksOf self p0 p1 p2 t_self) lk_X3_478 rfl rfl rfl (by decide) t_self ⟨by decide, by decide⟩ (Nat.le_of_ble_eq_true rfl) dX3_barOf_90 rfl fun v4 u4 => ?_
          refine go_aload_n (pc := 93) (j := 0) (i := 0) dX3_barOf_93 rfl rfl ?_
          refine go_iconst (pc := 94) (v := 3) dX3_barOf_94 (by decide) ?_
          refine go_callVI (pc := 95) (ci := 3) (ct_X3_tells self 3 t_self) lk_X3_445 rfl rfl rfl (by decide) t_self ⟨by decide, by decide⟩ (Nat.le_of_ble_eq_true rfl) dX3_barOf_95 rfl fun v5 u5 => ?_
          refine go_iconst (pc := 98) (v := 1) dX3_barOf_98 (by decide) ?_
          refine go_icmp_ne (pc := 99) (tgt := 106) dX3_barOf_99 (by decide) (fun h5 => ?_) (fun h5 => ?_)
          · refine go_iconst (pc := 102) (v := 0) dX3_barOf_102 (by decide) ?_
            refine go_goto (pc := 103) (tgt := 107) dX3_barOf_103 (by decide) ?_
            exact go_ireturn (pc := 107) rfl dX3_barOf_107
          · refine go_iconst (pc := 106) (v := 5) dX3_barOf_106 (by decide) ?_
            exact go_ireturn (pc := 107) rfl dX3_barOf_107
      · refine go_iconst (pc := 57) (v := 3) dX3_barOf_57 (by decide) ?_
        exact go_ireturn (pc := 58) rfl dX3_barOf_58

def f_X3_barred (self : Nat) (p0 : Int32) (p1 : Int32) (p2 : Int32) (u : zM) : Option (Int32 × zM) := bd (f_X3_barOf self p0 p1 p2 u) fun v1 u1 => if v1 = 0 then (lt (mR u1 self 63) fun r1 => oB r1 fun n1 => ix p1 (mN u1 n1) (if p2 ≤ (mI u1 n1 (xN p1)) then (lt (mR u1 self 32) fun r2 => oB r2 fun n2 => ix p0 (mN u1 n2) (lt (mR u1 self 33) fun r3 => oB r3 fun n3 => ix p0 (mN u1 n3) (if p2 ≤ ((mI u1 n2 (xN p0)) - (mI u1 n3 (xN p0))) then (some (0, u1)) else (some (7, u1))))) else (some (6, u1)))) else (some (v1, u1))
set_option maxHeartbeats 4000000 in
theorem ct_X3_barred (self : Nat) (p0 : Int32) (p1 : Int32) (p2 : Int32) (t_self : kd self = 3) : zMet yX3_barred cX3_barred 5 (some .int) 7 134 rvI (obT) [.ref self, .int p0, .int p1, .int p2] (f_X3_barred self p0 p1 p2) := by
  refine zMet_of (A := [(0, .ref self), (1, .int p0), (2, .int p1), (3, .int p2)]) (B := []) (ini := false) RX3 rfl (by decide +kernel) (fun h => by cases h) (by simp [lg_sl, Value.category]) (by simp [lv_args, Value.category]) rfl (by simp [lv_args, Value.category]) fun u => ?_
  unfold f_X3_barred
  refine go_aload_n (pc := 0) (j := 0) (i := 0) dX3_barred_0 rfl rfl ?_
  refine go_iload_n (pc := 1) (j := 1) (i := 1) dX3_barred_1 rfl rfl ?_
  refine go_iload_n (pc := 2) (j := 2) (i := 2) dX3_barred_2 rfl rfl ?_
  refine go_iload_n (pc := 3) (j := 3) (i := 3) dX3_barred_3 rfl rfl ?_
  refine go_callVI (pc := 4) (ci := 3) (ct_X3_barOf self p0 p1 p2 t_self) lk_X3_481 rfl rfl rfl (by decide) t_self ⟨by decide, by decide⟩ (Nat.le_of_ble_eq_true rfl) dX3_barred_4 rfl fun v1 u1 => ?_
  refine go_istore (pc := 7) (i := 4) (A' := [(0, .ref self), (1, .int p0), (2, .int p1), (3, .int p2), (4, .int v1)]) (by decide) rfl rfl rfl dX3_barred_7 ?_
  refine go_iload (pc := 9) (i := 4) dX3_barred_9 rfl ?_
  refine go_if_eq (pc := 11) (tgt := 19) dX3_barred_11 (by decide) (fun h1 => ?_) (fun h1 => ?_)
  · refine go_aload_n (pc := 19) (j := 0) (i := 0) dX3_barred_19 rfl rfl ?_
    refine go_getR (pc := 20) (n := self) (ci := 3) (k := 63) (t := 13) fa_X3_200_3 t_self rfl dX3_barred_20 fun r1 t_r1 => ?_
    refine go_iload_n (pc := 23) (j := 2) (i := 2) dX3_barred_23 rfl rfl ?_
    refine go_oB fun n1 e_n1 => ?_
    have t_n1 := t_r1 n1 e_n1
    subst e_n1
    refine go_iald (pc := 24) t_n1 dX3_barred_24 ?_
    refine go_iload_n (pc := 25) (j := 3) (i := 3) dX3_barred_25 rfl rfl ?_
    refine go_icmp_ge (pc := 26) (tgt := 34) dX3_barred_26 (by decide) (fun h2 => ?_) (fun h2 => ?_)
    · refine go_aload_n (pc := 34) (j := 0) (i := 0) dX3_barred_34 rfl rfl ?_
      refine go_getR (pc := 35) (n := self) (ci := 3) (k := 32) (t := 13) fa_X3_99_3 t_self rfl dX3_barred_35 fun r2 t_r2 => ?_
      refine go_iload_n (pc := 38) (j := 1) (i := 1) dX3_barred_38 rfl rfl ?_
      refine go_oB fun n2 e_n2 => ?_
      have t_n2 := t_r2 n2 e_n2
      subst e_n2
      refine go_iald (pc := 39) t_n2 dX3_barred_39 ?_
      refine go_aload_n (pc := 40) (j := 0) (i := 0) dX3_barred_40 rfl rfl ?_
      refine go_getR (pc := 41) (n := self) (ci := 3) (k := 33) (t := 13) fa_X3_102_3 t_self rfl dX3_barred_41 fun r3 t_r3 => ?_
      refine go_iload_n (pc := 44) (j := 1) (i := 1) dX3_barred_44 rfl rfl ?_
      refine go_oB fun n3 e_n3 => ?_
      have t_n3 := t_r3 n3 e_n3
      subst e_n3
      refine go_iald (pc := 45) t_n3 dX3_barred_45 ?_
      refine go_isub (pc := 46) dX3_barred_46 ?_
      refine go_iload_n (pc := 47) (j := 3) (i := 3) dX3_barred_47 rfl rfl ?_
      refine go_icmp_ge (pc := 48) (tgt := 56) dX3_barred_48 (by decide) (fun h3 => ?_) (fun h3 => ?_)
      · refine go_iconst (pc := 56) (v := 0) dX3_barred_56 (by decide) ?_
        exact go_ireturn (pc := 57) rfl dX3_barred_57
      · refine go_bipush (pc := 51) (v := 7) dX3_barred_51 (by decide) ?_
        refine go_goto (pc := 53) (tgt := 57) dX3_barred_53 (by decide) ?_
        exact go_ireturn (pc := 57) rfl dX3_barred_57
    · refine go_bipush (pc := 29) (v := 6) dX3_barred_29 (by decide) ?_
      refine go_goto (pc := 31) (tgt := 57) dX3_barred_31 (by decide) ?_
      exact go_ireturn (pc := 57) rfl dX3_barred_57
  · refine go_iload (pc := 14) (i := 4) dX3_barred_14 rfl ?_
    refine go_goto (pc := 16) (tgt := 57) dX3_barred_16 (by decide) ?_
    exact go_ireturn (pc := 57) rfl dX3_barred_57

def f_X3_bar (self : Nat) (p0 : Int32) (p1 : Int32) (p2 : Int32) (u : zM) : Option (Int32 × zM) := bd (f_X3_canAsk self p0 p1 p2 u) fun v1 u1 => if v1 = 0 then (some ((-1), u1)) else (bd (f_X3_barred self p0 p1 p2 u1) fun v2 u2 => some (v2, u2))
set_option maxHeartbeats 4000000 in
theorem ct_X3_bar (self : Nat) (p0 : Int32) (p1 : Int32) (p2 : Int32) (t_self : kd self = 3) : zMet yX3_bar cX3_bar 4 (some .int) 8 158 rvI (obT) [.ref self, .int p0, .int p1, .int p2] (f_X3_bar self p0 p1 p2) := by
  refine zMet_of (A := [(0, .ref self), (1, .int p0), (2, .int p1), (3, .int p2)]) (B := []) (ini := false) RX3 rfl (by decide +kernel) (fun h => by cases h) (by simp [lg_sl, Value.category]) (by simp [lv_args, Value.category]) rfl (by simp [lv_args, Value.category]) fun u => ?_
  unfold f_X3_bar
  refine go_aload_n (pc := 0) (j := 0) (i := 0) dX3_bar_0 rfl rfl ?_
  refine go_iload_n (pc := 1) (j := 1) (i := 1) dX3_bar_1 rfl rfl ?_
  refine go_iload_n (pc := 2) (j := 2) (i := 2) dX3_bar_2 rfl rfl ?_
  refine go_iload_n (pc := 3) (j := 3) (i := 3) dX3_bar_3 rfl rfl ?_
  refine go_callVI (pc := 4) (ci := 3) (ct_X3_canAsk self p0 p1 p2 t_self) lk_X3_488 rfl rfl rfl (by decide) t_self ⟨by decide, by decide⟩ (Nat.le_of_ble_eq_true rfl) dX3_bar_4 rfl fun v1 u1 => ?_
  refine go_if_eq (pc := 7) (tgt := 20) dX3_bar_7 (by decide) (fun h1 => ?_) (fun h1 => ?_)
  · refine go_iconst (pc := 20) (v := (-1)) dX3_bar_20 (by decide) ?_
    exact go_ireturn (pc := 21) rfl dX3_bar_21
  · refine go_aload_n (pc := 10) (j := 0) (i := 0) dX3_bar_10 rfl rfl ?_
    refine go_iload_n (pc := 11) (j := 1) (i := 1) dX3_bar_11 rfl rfl ?_
    refine go_iload_n (pc := 12) (j := 2) (i := 2) dX3_bar_12 rfl rfl ?_
    refine go_iload_n (pc := 13) (j := 3) (i := 3) dX3_bar_13 rfl rfl ?_
    refine go_callVI (pc := 14) (ci := 3) (ct_X3_barred self p0 p1 p2 t_self) lk_X3_492 rfl rfl rfl (by decide) t_self ⟨by decide, by decide⟩ (Nat.le_of_ble_eq_true rfl) dX3_bar_14 rfl fun v2 u2 => ?_
    refine go_goto (pc := 17) (tgt := 21) dX3_bar_17 (by decide) ?_
    exact go_ireturn (pc := 21) rfl dX3_bar_21

def f_X3_weave (self : Nat) (p0 : Int32) (p1 : Int32) (p2 : Int32) (u : zM) : Option (Int32 × zM) := bd (f_X3_canAsk self p0 p1 p2 u) fun v1 u1 => if v1 = 0 then (some ((-1), u1)) else (if (mI u1 self 78) = 200 then (some ((-1), u1)) else (if (mI u1 self 0) = 156 then (some ((-1), u1)) else (bd (f_X3_barred self p0 p1 p2 u1) fun v2 u2 => if v2 = 0 then (bd (f_X3_asksOf self p0 p1 p2 u2) fun v3 u3 => bd (f_X3_tells self 1 u3) fun v4 u4 => bd (f_X3_least v4 u4) fun v5 u5 => bd (f_X3_asksOf self p0 p1 p2 u5) fun v6 u6 => lt (mR u6 self 77) fun r1 => bd (f_X3_tells self 4 u6) fun v7 u7 => lt (fun (z1 : Int32) (u8 : zM) => oB r1 fun n1 => ix (mI u6 self 78) (mN u8 n1) (lt (sI u8 n1 (xN (mI u6 self 78)) (z1 &&& 1)) fun u9 => lt (mR u9 self 25) fun r2 => lt (mR u9 self 58) fun r3 => oB r3 fun n2 => ix p1 (mN u9 n2) (oB r2 fun n3 => ix (mI u9 n2 (xN p1)) (mN u9 n3) (ix (mI u9 n2 (xN p1)) (mN u9 n3) (lt (sI u9 n3 (xN (mI u9 n2 (xN p1))) ((mI u9 n3 (xN (mI u9 n2 (xN p1)))) - v5)) fun u10 => lt (mR u10 self 25) fun r4 => oB r4 fun n4 => ix p0 (mN u10 n4) (ix p0 (mN u10 n4) (lt (sI u10 n4 (xN p0) ((mI u10 n4 (xN p0)) + v5)) fun u11 => lt (mR u11 self 63) fun r5 => oB r5 fun n5 => ix p1 (mN u11 n5) (ix p1 (mN u11 n5) (lt (sI u11 n5 (xN p1) ((mI u11 n5 (xN p1)) - p2)) fun u12 => lt (mR u12 self 33) fun r6 => oB r6 fun n6 => ix p0 (mN u12 n6) (ix p0 (mN u12 n6) (lt (sI u12 n6 (xN p0) ((mI u12 n6 (xN p0)) + p2)) fun u13 => lt (sI u13 self 70 ((mI u13 self 70) + p2)) fun u14 => lt (mR u14 self 72) fun r7 => oB r7 fun n7 => ix (mI u14 self 78) (mN u14 n7) (lt (sI u14 n7 (xN (mI u14 self 78)) p1) fun u15 => lt (mR u15 self 73) fun r8 => oB r8 fun n8 => ix (mI u15 self 78) (mN u15 n8) (lt (sI u15 n8 (xN (mI u15 self 78)) p0) fun u16 => lt (mR u16 self 74) fun r9 => oB r9 fun n9 => ix (mI u16 self 78) (mN u16 n9) (lt (sI u16 n9 (xN (mI u16 self 78)) (mI u16 self 0)) fun u17 => lt (mR u17 self 75) fun r10 => oB r10 fun n10 => ix (mI u17 self 78) (mN u17 n10) (lt (sI u17 n10 (xN (mI u17 self 78)) (p2 / 2)) fun u18 => lt (mR u18 self 76) fun r11 => oB r11 fun n11 => ix (mI u18 self 78) (mN u18 n11) (lt (sI u18 n11 (xN (mI u18 self 78)) (-1)) fun u19 => lt (sI u19 self 78 ((mI u19 self 78) + 1)) fun u20 => some (((mI u20 self 78) - 1), u20))))))))))))))))) fun j1 => if v7 = 1 then (j1 1 u7) else (j1 0 u7)) else (some ((-1), u2)))))
set_option maxHeartbeats 4000000 in
theorem ct_X3_weave (self : Nat) (p0 : Int32) (p1 : Int32) (p2 : Int32) (t_self : kd self = 3) : zMet yX3_weave cX3_weave 5 (some .int) 8 158 rvI (obT) [.ref self, .int p0, .int p1, .int p2] (f_X3_weave self p0 p1 p2) := by
  refine zMet_of (A := [(0, .ref self), (1, .int p0), (2, .int p1), (3, .int p2)]) (B := []) (ini := false) RX3 rfl (by decide +kernel) (fun h => by cases h) (by simp [lg_sl, Value.category]) (by simp [lv_args, Value.category]) rfl (by simp [lv_args, Value.category]) fun u => ?_
  unfold f_X3_weave
  refine go_aload_n (pc := 0) (j := 0) (i := 0) dX3_weave_0 rfl rfl ?_
  refine go_iload_n (pc := 1) (j := 1) (i := 1) dX3_weave_1 rfl rfl ?_
  refine go_iload_n (pc := 2) (j := 2) (i := 2) dX3_weave_2 rfl rfl ?_
  refine go_iload_n (pc := 3) (j := 3) (i := 3) dX3_weave_3 rfl rfl ?_
  refine go_callVI (pc := 4) (ci := 3) (ct_X3_canAsk self p0 p1 p2 t_self) lk_X3_488 rfl rfl rfl (by decide) t_self ⟨by decide, by decide⟩ (Nat.le_of_ble_eq_true rfl) dX3_weave_4 rfl fun v1 u1 => ?_
  refine go_if_eq (pc := 7) (tgt := 40) dX3_weave_7 (by decide) (fun h1 => ?_) (fun h1 => ?_)
  · refine go_iconst (pc := 40) (v := (-1)) dX3_weave_40 (by decide) ?_
    exact go_ireturn (pc := 41) rfl dX3_weave_41
  · refine go_aload_n (pc := 10) (j := 0) (i := 0) dX3_weave_10 rfl rfl ?_
    refine go_getI (pc := 11) (n := self) (ci := 3) (k := 78) fa_X3_495_3 t_self rfl dX3_weave_11 ?_
    refine go_sipush (pc := 14) (v := 200) dX3_weave_14 (by decide) ?_
    refine go_icmp_eq (pc := 17) (tgt := 40) dX3_weave_17 (by decide) (fun h2 => ?_) (fun h2 => ?_)
    · refine go_iconst (pc := 40) (v := (-1)) dX3_weave_40 (by decide) ?_
      exact go_ireturn (pc := 41) rfl dX3_weave_41
    · refine go_aload_n (pc := 20) (j := 0) (i := 0) dX3_weave_20 rfl rfl ?_
      refine go_getI (pc := 21) (n := self) (ci := 3) (k := 0) fa_X3_286_3 t_self rfl dX3_weave_21 ?_
      refine go_sipush (pc := 24) (v := 156) dX3_weave_24 (by decide) ?_
      refine go_icmp_eq (pc := 27) (tgt := 40) dX3_weave_27 (by decide) (fun h3 => ?_) (fun h3 => ?_)
      · refine go_iconst (pc := 40) (v := (-1)) dX3_weave_40 (by decide) ?_
        exact go_ireturn (pc := 41) rfl dX3_weave_41
      · refine go_aload_n (pc := 30) (j := 0) (i := 0) dX3_weave_30 rfl rfl ?_
        refine go_iload_n (pc := 31) (j := 1) (i := 1) dX3_weave_31 rfl rfl ?_
        refine go_iload_n (pc := 32) (j := 2) (i := 2) dX3_weave_32 rfl rfl ?_
        refine go_iload_n (pc := 33) (j := 3) (i := 3) dX3_weave_33 rfl rfl ?_
        refine go_callVI (pc := 34) (ci := 3) (ct_X3_barred self p0 p1 p2 t_self) lk_X3_492 rfl rfl rfl (by decide) t_self ⟨by decide, by decide⟩ (Nat.le_of_ble_eq_true rfl) dX3_weave_34 rfl fun v2 u2 => ?_
        refine go_if_eq (pc := 37) (tgt := 42) dX3_weave_37 (by decide) (fun h4 => ?_) (fun h4 => ?_)
        · refine go_aload_n (pc := 42) (j := 0) (i := 0) dX3_weave_42 rfl rfl ?_
          refine go_iload_n (pc := 43) (j := 1) (i := 1) dX3_weave_43 rfl rfl ?_
          refine go_iload_n (pc := 44) (j := 2) (i := 2) dX3_weave_44 rfl rfl ?_
          refine go_iload_n (pc := 45) (j := 3) (i := 3) dX3_weave_45 rfl rfl ?_
          refine go_callVV (pc := 46) (ci := 3) (ct_X3_asksOf self p0 p1 p2 t_self) lk_X3_478 rfl rfl rfl (by decide) t_self ⟨by decide, by decide⟩ (Nat.le_of_ble_eq_true rfl) dX3_weave_46 rfl fun v3 u3 => ?_
          refine go_aload_n (pc := 49) (j := 0) (i := 0) dX3_weave_49 rfl rfl ?_
          refine go_iconst (pc := 50) (v := 1) dX3_weave_50 (by decide) ?_
          refine go_callVI (pc := 51) (ci := 3) (ct_X3_tells self 1 t_self) lk_X3_445 rfl rfl rfl (by decide) t_self ⟨by decide, by decide⟩ (Nat.le_of_ble_eq_true rfl) dX3_weave_51 rfl fun v4 u4 => ?_
          refine go_callSI (pc := 54) (ct_X3_least v4) lk_X3_448 rfl ⟨by decide, by decide⟩ (Nat.le_of_ble_eq_true rfl) dX3_weave_54 rfl fun v5 u5 => ?_
          refine go_istore (pc := 57) (i := 4) (A' := [(0, .ref self), (1, .int p0), (2, .int p1), (3, .int p2), (4, .int v5)]) (by decide) rfl rfl rfl dX3_weave_57 ?_
          refine go_aload_n (pc := 59) (j := 0) (i := 0) dX3_weave_59 rfl rfl ?_
          refine go_iload_n (pc := 60) (j := 1) (i := 1) dX3_weave_60 rfl rfl ?_
          refine go_iload_n (pc := 61) (j := 2) (i := 2) dX3_weave_61 rfl rfl ?_
          refine go_iload_n (pc := 62) (j := 3) (i := 3) dX3_weave_62 rfl rfl ?_
          refine go_callVV (pc := 63) (ci := 3) (ct_X3_asksOf self p0 p1 p2 t_self) lk_X3_478 rfl rfl rfl (by decide) t_self ⟨by decide, by decide⟩ (Nat.le_of_ble_eq_true rfl) dX3_weave_63 rfl fun v6 u6 => ?_
          refine go_aload_n (pc := 66) (j := 0) (i := 0) dX3_weave_66 rfl rfl ?_
          refine go_getR (pc := 67) (n := self) (ci := 3) (k := 77) (t := 15) fa_X3_230_3 t_self rfl dX3_weave_67 fun r1 t_r1 => ?_
          refine go_aload_n (pc := 70) (j := 0) (i := 0) dX3_weave_70 rfl rfl ?_
          refine go_getI (pc := 71) (n := self) (ci := 3) (k := 78) fa_X3_495_3 t_self rfl dX3_weave_71 ?_
          refine go_aload_n (pc := 74) (j := 0) (i := 0) dX3_weave_74 rfl rfl ?_
          refine go_iconst (pc := 75) (v := 4) dX3_weave_75 (by decide) ?_
          refine go_callVI (pc := 76) (ci := 3) (ct_X3_tells self 4 t_self) lk_X3_445 rfl rfl rfl (by decide) t_self ⟨by decide, by decide⟩ (by simp [cat_rf, cat_int, cat_ref, cat_long]) dX3_weave_76 rfl fun v7 u7 => ?_
          refine go_iconst (pc := 79) (v := 1) dX3_weave_79 (by decide) ?_
          refine go_join1 (pcx := 88) (α1 := Int32) (fun z1 => [(0, .ref self), (1, .int p0), (2, .int p1), (3, .int p2), (4, .int v5)]) (fun z1 => []) (fun z1 => [.int z1, .int (mI u6 self 78), va_rf r1]) (fun z1 => True) (fun z1 u8 _ => ?_) (fun j1 hj1 => ?_)
          · refine go_oB fun n1 e_n1 => ?_
            have t_n1 := t_r1 n1 e_n1
            subst e_n1
            refine go_zast (pc := 88) t_n1 dX3_weave_88 fun u9 => ?_
            refine go_aload_n (pc := 89) (j := 0) (i := 0) dX3_weave_89 rfl rfl ?_
            refine go_getR (pc := 90) (n := self) (ci := 3) (k := 25) (t := 13) fa_X3_78_3 t_self rfl dX3_weave_90 fun r2 t_r2 => ?_
            refine go_aload_n (pc := 93) (j := 0) (i := 0) dX3_weave_93 rfl rfl ?_
            refine go_getR (pc := 94) (n := self) (ci := 3) (k := 58) (t := 13) fa_X3_185_3 t_self rfl dX3_weave_94 fun r3 t_r3 => ?_
            refine go_iload_n (pc := 97) (j := 2) (i := 2) dX3_weave_97 rfl rfl ?_
            refine go_oB fun n2 e_n2 => ?_
            have t_n2 := t_r3 n2 e_n2
            subst e_n2
            refine go_iald (pc := 98) t_n2 dX3_weave_98 ?_
            refine go_oB fun n3 e_n3 => ?_
            have t_n3 := t_r2 n3 e_n3
            subst e_n3
            refine go_dup2 (pc := 99) dX3_weave_99 ?_
            refine go_iald (pc := 100) t_n3 dX3_weave_100 ?_
            refine go_iload (pc := 101) (i := 4) dX3_weave_101 rfl ?_
            refine go_isub (pc := 103) dX3_weave_103 ?_
            refine go_iast (pc := 104) t_n3 dX3_weave_104 fun u10 => ?_
            refine go_aload_n (pc := 105) (j := 0) (i := 0) dX3_weave_105 rfl rfl ?_
            refine go_getR (pc := 106) (n := self) (ci := 3) (k := 25) (t := 13) fa_X3_78_3 t_self rfl dX3_weave_106 fun r4 t_r4 => ?_
            refine go_iload_n (pc := 109) (j := 1) (i := 1) dX3_weave_109 rfl rfl ?_
            refine go_oB fun n4 e_n4 => ?_
            have t_n4 := t_r4 n4 e_n4
            subst e_n4
            refine go_dup2 (pc := 110) dX3_weave_110 ?_
            refine go_iald (pc := 111) t_n4 dX3_weave_111 ?_
            refine go_iload (pc := 112) (i := 4) dX3_weave_112 rfl ?_
            refine go_iadd (pc := 114) dX3_weave_114 ?_
            refine go_iast (pc := 115) t_n4 dX3_weave_115 fun u11 => ?_
            refine go_aload_n (pc := 116) (j := 0) (i := 0) dX3_weave_116 rfl rfl ?_
            refine go_getR (pc := 117) (n := self) (ci := 3) (k := 63) (t := 13) fa_X3_200_3 t_self rfl dX3_weave_117 fun r5 t_r5 => ?_
            refine go_iload_n (pc := 120) (j := 2) (i := 2) dX3_weave_120 rfl rfl ?_
            refine go_oB fun n5 e_n5 => ?_
            have t_n5 := t_r5 n5 e_n5
            subst e_n5
            refine go_dup2 (pc := 121) dX3_weave_121 ?_
            refine go_iald (pc := 122) t_n5 dX3_weave_122 ?_
            refine go_iload_n (pc := 123) (j := 3) (i := 3) dX3_weave_123 rfl rfl ?_
            refine go_isub (pc := 124) dX3_weave_124 ?_
            refine go_iast (pc := 125) t_n5 dX3_weave_125 fun u12 => ?_
            refine go_aload_n (pc := 126) (j := 0) (i := 0) dX3_weave_126 rfl rfl ?_
            refine go_getR (pc := 127) (n := self) (ci := 3) (k := 33) (t := 13) fa_X3_102_3 t_self rfl dX3_weave_127 fun r6 t_r6 => ?_
            refine go_iload_n (pc := 130) (j := 1) (i := 1) dX3_weave_130 rfl rfl ?_
            refine go_oB fun n6 e_n6 => ?_
            have t_n6 := t_r6 n6 e_n6
            subst e_n6
            refine go_dup2 (pc := 131) dX3_weave_131 ?_
            refine go_iald (pc := 132) t_n6 dX3_weave_132 ?_
            refine go_iload_n (pc := 133) (j := 3) (i := 3) dX3_weave_133 rfl rfl ?_
            refine go_iadd (pc := 134) dX3_weave_134 ?_
            refine go_iast (pc := 135) t_n6 dX3_weave_135 fun u13 => ?_
            refine go_aload_n (pc := 136) (j := 0) (i := 0) dX3_weave_136 rfl rfl ?_
            refine go_dupA (pc := 137) dX3_weave_137 ?_
            refine go_getI (pc := 138) (n := self) (ci := 3) (k := 70) fa_X3_498_3 t_self rfl dX3_weave_138 ?_
            refine go_iload_n (pc := 141) (j := 3) (i := 3) dX3_weave_141 rfl rfl ?_
            refine go_iadd (pc := 142) dX3_weave_142 ?_
            refine go_putI (pc := 143) (n := self) (ci := 3) (k := 70) (v := ((mI u13 self 70) + p2)) pa_X3_498_3 (fun h => by cases h) t_self rfl zKeep_int dX3_weave_143 fun u14 => ?_
            refine go_aload_n (pc := 146) (j := 0) (i := 0) dX3_weave_146 rfl rfl ?_
            refine go_getR (pc := 147) (n := self) (ci := 3) (k := 72) (t := 13) fa_X3_215_3 t_self rfl dX3_weave_147 fun r7 t_r7 => ?_
            refine go_aload_n (pc := 150) (j := 0) (i := 0) dX3_weave_150 rfl rfl ?_
            refine go_getI (pc := 151) (n := self) (ci := 3) (k := 78) fa_X3_495_3 t_self rfl dX3_weave_151 ?_
            refine go_iload_n (pc := 154) (j := 2) (i := 2) dX3_weave_154 rfl rfl ?_
            refine go_oB fun n7 e_n7 => ?_
            have t_n7 := t_r7 n7 e_n7
            subst e_n7
            refine go_iast (pc := 155) t_n7 dX3_weave_155 fun u15 => ?_
            refine go_aload_n (pc := 156) (j := 0) (i := 0) dX3_weave_156 rfl rfl ?_
            refine go_getR (pc := 157) (n := self) (ci := 3) (k := 73) (t := 13) fa_X3_218_3 t_self rfl dX3_weave_157 fun r8 t_r8 => ?_
            refine go_aload_n (pc := 160) (j := 0) (i := 0) dX3_weave_160 rfl rfl ?_
            refine go_getI (pc := 161) (n := self) (ci := 3) (k := 78) fa_X3_495_3 t_self rfl dX3_weave_161 ?_
            refine go_iload_n (pc := 164) (j := 1) (i := 1) dX3_weave_164 rfl rfl ?_
            refine go_oB fun n8 e_n8 => ?_
            have t_n8 := t_r8 n8 e_n8
            subst e_n8
            refine go_iast (pc := 165) t_n8 dX3_weave_165 fun u16 => ?_
            refine go_aload_n (pc := 166) (j := 0) (i := 0) dX3_weave_166 rfl rfl ?_
            refine go_getR (pc := 167) (n := self) (ci := 3) (k := 74) (t := 13) fa_X3_221_3 t_self rfl dX3_weave_167 fun r9 t_r9 => ?_
            refine go_aload_n (pc := 170) (j := 0) (i := 0) dX3_weave_170 rfl rfl ?_
            refine go_getI (pc := 171) (n := self) (ci := 3) (k := 78) fa_X3_495_3 t_self rfl dX3_weave_171 ?_
            refine go_aload_n (pc := 174) (j := 0) (i := 0) dX3_weave_174 rfl rfl ?_
            refine go_getI (pc := 175) (n := self) (ci := 3) (k := 0) fa_X3_286_3 t_self rfl dX3_weave_175 ?_
            refine go_oB fun n9 e_n9 => ?_
            have t_n9 := t_r9 n9 e_n9
            subst e_n9
            refine go_iast (pc := 178) t_n9 dX3_weave_178 fun u17 => ?_
            refine go_aload_n (pc := 179) (j := 0) (i := 0) dX3_weave_179 rfl rfl ?_
            refine go_getR (pc := 180) (n := self) (ci := 3) (k := 75) (t := 13) fa_X3_224_3 t_self rfl dX3_weave_180 fun r10 t_r10 => ?_
            refine go_aload_n (pc := 183) (j := 0) (i := 0) dX3_weave_183 rfl rfl ?_
            refine go_getI (pc := 184) (n := self) (ci := 3) (k := 78) fa_X3_495_3 t_self rfl dX3_weave_184 ?_
            refine go_iload_n (pc := 187) (j := 3) (i := 3) dX3_weave_187 rfl rfl ?_
            refine go_iconst (pc := 188) (v := 2) dX3_weave_188 (by decide) ?_
            refine go_idiv (pc := 189) dX3_weave_189 (by decide) ?_
            refine go_oB fun n10 e_n10 => ?_
            have t_n10 := t_r10 n10 e_n10
            subst e_n10
            refine go_iast (pc := 190) t_n10 dX3_weave_190 fun u18 => ?_
            refine go_aload_n (pc := 191) (j := 0) (i := 0) dX3_weave_191 rfl rfl ?_
            refine go_getR (pc := 192) (n := self) (ci := 3) (k := 76) (t := 13) fa_X3_227_3 t_self rfl dX3_weave_192 fun r11 t_r11 => ?_
            refine go_aload_n (pc := 195) (j := 0) (i := 0) dX3_weave_195 rfl rfl ?_
            refine go_getI (pc := 196) (n := self) (ci := 3) (k := 78) fa_X3_495_3 t_self rfl dX3_weave_196 ?_
            refine go_iconst (pc := 199) (v := (-1)) dX3_weave_199 (by decide) ?_
            refine go_oB fun n11 e_n11 => ?_
            have t_n11 := t_r11 n11 e_n11
            subst e_n11
            refine go_iast (pc := 200) t_n11 dX3_weave_200 fun u19 => ?_
            refine go_aload_n (pc := 201) (j := 0) (i := 0) dX3_weave_201 rfl rfl ?_
            refine go_dupA (pc := 202) dX3_weave_202 ?_
            refine go_getI (pc := 203) (n := self) (ci := 3) (k := 78) fa_X3_495_3 t_self rfl dX3_weave_203 ?_
            refine go_iconst (pc := 206) (v := 1) dX3_weave_206 (by decide) ?_
            refine go_iadd (pc := 207) dX3_weave_207 ?_
            refine go_putI (pc := 208) (n := self) (ci := 3) (k := 78) (v := ((mI u19 self 78) + 1)) pa_X3_495_3 (fun h => by cases h) t_self rfl zKeep_int dX3_weave_208 fun u20 => ?_
            refine go_aload_n (pc := 211) (j := 0) (i := 0) dX3_weave_211 rfl rfl ?_
            refine go_getI (pc := 212) (n := self) (ci := 3) (k := 78) fa_X3_495_3 t_self rfl dX3_weave_212 ?_
            refine go_iconst (pc := 215) (v := 1) dX3_weave_215 (by decide) ?_
            refine go_isub (pc := 216) dX3_weave_216 ?_
            exact go_ireturn (pc := 217) rfl dX3_weave_217
          · refine go_icmp_ne (pc := 80) (tgt := 87) dX3_weave_80 (by decide) (fun h5 => ?_) (fun h5 => ?_)
            · refine go_iconst (pc := 83) (v := 1) dX3_weave_83 (by decide) ?_
              refine go_goto (pc := 84) (tgt := 88) dX3_weave_84 (by decide) ?_
              exact go_weak (A' := [(0, .ref self), (1, .int p0), (2, .int p1), (3, .int p2), (4, .int v5)]) (B' := []) ⟨rfl, rfl, rfl, rfl, rfl, trivial⟩ rfl (fun q h => by cases h) (hj1 1 u7 trivial)
            · refine go_iconst (pc := 87) (v := 0) dX3_weave_87 (by decide) ?_
              exact go_weak (A' := [(0, .ref self), (1, .int p0), (2, .int p1), (3, .int p2), (4, .int v5)]) (B' := []) ⟨rfl, rfl, rfl, rfl, rfl, trivial⟩ rfl (fun q h => by cases h) (hj1 0 u7 trivial)
        · refine go_iconst (pc := 40) (v := (-1)) dX3_weave_40 (by decide) ?_
          exact go_ireturn (pc := 41) rfl dX3_weave_41

