set_option maxRecDepth 100000
def f_X3_in (p0 : Int64) (p1 : Int64) (p2 : Int64) (u : zM) : Option (Int32 × zM) := if (lg_cmp p0 p1) < 0 then (gb 0 (some (0, u))) else (if 0 < (lg_cmp p0 p2) then (gb 0 (some (0, u))) else (gb 1 (some (1, u))))
set_option maxHeartbeats 4000000 in
theorem ct_X3_in (p0 : Int64) (p1 : Int64) (p2 : Int64) : zMet yX3_in cX3_in 6 (some .boolean) 1 0 rvI (obT) [.long p0, .long p1, .long p2] (f_X3_in p0 p1 p2) := by
  refine zMet_of (A := []) (B := [(0, p0), (2, p1), (4, p2)]) (ini := false) RX3 rfl (by decide +kernel) (fun h => by cases h) (by simp [lg_sl, Value.category]) (by simp [lv_args, Value.category]) rfl (by simp [lv_args, Value.category]) fun u => ?_
  unfold f_X3_in
  refine go_lload_n (pc := 0) (j := 0) (i := 0) dX3_in_0 rfl 0 rfl ?_
  refine go_lload_n (pc := 1) (j := 2) (i := 2) dX3_in_1 rfl 1 rfl ?_
  refine go_lcmp (pc := 2) dX3_in_2 ?_
  refine go_if_lt (pc := 3) (tgt := 17) dX3_in_3 (by decide) (fun h1 => ?_) (fun h1 => ?_)
  · refine go_iconst (pc := 17) (v := 0) dX3_in_17 (by decide) ?_
    exact go_zreturn (pc := 18) rfl dX3_in_18
  · refine go_lload_n (pc := 6) (j := 0) (i := 0) dX3_in_6 rfl 0 rfl ?_
    refine go_lload (pc := 7) (i := 4) dX3_in_7 2 rfl ?_
    refine go_lcmp (pc := 9) dX3_in_9 ?_
    refine go_if_gt (pc := 10) (tgt := 17) dX3_in_10 (by decide) (fun h2 => ?_) (fun h2 => ?_)
    · refine go_iconst (pc := 17) (v := 0) dX3_in_17 (by decide) ?_
      exact go_zreturn (pc := 18) rfl dX3_in_18
    · refine go_iconst (pc := 13) (v := 1) dX3_in_13 (by decide) ?_
      refine go_goto (pc := 14) (tgt := 18) dX3_in_14 (by decide) ?_
      exact go_zreturn (pc := 18) rfl dX3_in_18

def f_X3_village_L186 (x0 : Nat) (x4 : Int32) : Nat → Int32 → zM → Option (Int32 × zM)
  | 0, _, _ => none
  | n + 1, x5, u => if (mI u x0 0) < x5 then (lt (sI u x0 1 ((mI u x0 1) + 1)) fun u11 => some (x4, u11)) else (lt (mR u x0 5) fun r13 => oB r13 fun n13 => ix x4 (mN u n13) (lt (mR u n13 (xN x4)) fun r14 => oB r14 fun n14 => ix x5 (mN u n14) (lt (sI u n14 (xN x5) 10) fun u12 => f_X3_village_L186 x0 x4 n (x5 + 1) u12)))
section
variable {c0 s0 : Nat} {tbv : List ExceptionTableEntry}
set_option maxHeartbeats 4000000 in
theorem g_X3_village_L186 (x0 : Nat) (x4 : Int32) (t_x0 : kd x0 = 3) : ∀ (n : Nat) (x5 : Int32) (u : zM), Go RX3 cX3_village 6 (some .int) false 2 25 [] (obT) (zQ rvI) c0 s0 186 [(0, .ref x0), (4, .int x4), (5, .int x5)] [] [] u (f_X3_village_L186 x0 x4 n x5 u) := by
  intro n
  induction n with
  | zero => intros; exact go_none
  | succ n ih =>
    intro x5 u
    unfold f_X3_village_L186
    refine go_iload (pc := 186) (i := 5) dX3_village_186 rfl ?_
    refine go_aload_n (pc := 188) (j := 0) (i := 0) dX3_village_188 rfl rfl ?_
    refine go_getI (pc := 189) (n := x0) (ci := 3) (k := 0) fa_X3_286_3 t_x0 rfl dX3_village_189 ?_
    refine go_icmp_gt (pc := 192) (tgt := 213) dX3_village_192 (by decide) (fun h9 => ?_) (fun h9 => ?_)
    · refine go_aload_n (pc := 213) (j := 0) (i := 0) dX3_village_213 rfl rfl ?_
      refine go_dupA (pc := 214) dX3_village_214 ?_
      refine go_getI (pc := 215) (n := x0) (ci := 3) (k := 1) fa_X3_270_3 t_x0 rfl dX3_village_215 ?_
      refine go_iconst (pc := 218) (v := 1) dX3_village_218 (by decide) ?_
      refine go_iadd (pc := 219) dX3_village_219 ?_
      refine go_putI (pc := 220) (n := x0) (ci := 3) (k := 1) (v := ((mI u x0 1) + 1)) pa_X3_270_3 (fun h => by cases h) t_x0 rfl zKeep_int dX3_village_220 fun u11 => ?_
      refine go_iload (pc := 223) (i := 4) dX3_village_223 rfl ?_
      exact go_ireturn (pc := 225) rfl dX3_village_225
    · refine go_aload_n (pc := 195) (j := 0) (i := 0) dX3_village_195 rfl rfl ?_
      refine go_getR (pc := 196) (n := x0) (ci := 3) (k := 5) (t := 23) fa_X3_17_3 t_x0 rfl dX3_village_196 fun r13 t_r13 => ?_
      refine go_iload (pc := 199) (i := 4) dX3_village_199 rfl ?_
      refine go_oB fun n13 e_n13 => ?_
      have t_n13 := t_r13 n13 e_n13
      subst e_n13
      refine go_aald (pc := 201) (n := n13) (ci := 23) (t := 13) (by decide) (by decide) t_n13 rfl dX3_village_201 fun r14 t_r14 => ?_
      refine go_iload (pc := 202) (i := 5) dX3_village_202 rfl ?_
      refine go_bipush (pc := 204) (v := 10) dX3_village_204 (by decide) ?_
      refine go_oB fun n14 e_n14 => ?_
      have t_n14 := t_r14 n14 e_n14
      subst e_n14
      refine go_iast (pc := 206) t_n14 dX3_village_206 fun u12 => ?_
      refine go_iinc (pc := 207) (i := 5) (w := 1) (A' := [(0, .ref x0), (4, .int x4), (5, .int (x5 + 1))]) rfl (by decide) (by decide) rfl rfl rfl dX3_village_207 ?_
      refine go_goto (pc := 210) (tgt := 186) dX3_village_210 (by decide) ?_
      exact go_weak (A' := [(0, .ref x0), (4, .int x4), (5, .int (x5 + 1))]) (B' := []) ⟨rfl, rfl, rfl, trivial⟩ rfl (fun q h => by cases h) (ih (x5 + 1) u12)
end
def f_X3_village (self : Nat) (p0 : Int32) (p1 : Int32) (p2 : Int32) (u : zM) : Option (Int32 × zM) := if p0 < 0 then (some ((-1), u)) else (if 40 < (p0 / 1000000) then (some ((-1), u)) else (if 40 < ((p0 / 10000) - (p0 / 10000) / 100 * 100) then (some ((-1), u)) else (if 40 < ((p0 / 100) - (p0 / 100) / 100 * 100) then (some ((-1), u)) else (if 40 < (p0 - p0 / 100 * 100) then (some ((-1), u)) else (bd (f_X3_in (Int32.toInt64 p1) 1 9 u) fun v1 u1 => if v1 = 0 then (some ((-1), u1)) else (bd (f_X3_in (Int32.toInt64 p2) 0 9999 u1) fun v2 u2 => if v2 = 0 then (some ((-1), u2)) else (if (mI u2 self 1) = 8 then (some ((-1), u2)) else (lt (mR u2 self 3) fun r1 => oB r1 fun n1 => ix (mI u2 self 1) (mN u2 n1) (lt (mR u2 n1 (xN (mI u2 self 1))) fun r2 => oB r2 fun n2 => ix 0 (mN u2 n2) (lt (sI u2 n2 (xN 0) (p0 / 1000000)) fun u3 => lt (mR u3 self 3) fun r3 => oB r3 fun n3 => ix (mI u2 self 1) (mN u3 n3) (lt (mR u3 n3 (xN (mI u2 self 1))) fun r4 => oB r4 fun n4 => ix 1 (mN u3 n4) (lt (sI u3 n4 (xN 1) ((p0 / 10000) - (p0 / 10000) / 100 * 100)) fun u4 => lt (mR u4 self 3) fun r5 => oB r5 fun n5 => ix (mI u2 self 1) (mN u4 n5) (lt (mR u4 n5 (xN (mI u2 self 1))) fun r6 => oB r6 fun n6 => ix 2 (mN u4 n6) (lt (sI u4 n6 (xN 2) ((p0 / 100) - (p0 / 100) / 100 * 100)) fun u5 => lt (mR u5 self 3) fun r7 => oB r7 fun n7 => ix (mI u2 self 1) (mN u5 n7) (lt (mR u5 n7 (xN (mI u2 self 1))) fun r8 => oB r8 fun n8 => ix 3 (mN u5 n8) (lt (sI u5 n8 (xN 3) (p0 - p0 / 100 * 100)) fun u6 => lt (mR u6 self 6) fun r9 => oB r9 fun n9 => ix (mI u2 self 1) (mN u6 n9) (lt (sI u6 n9 (xN (mI u2 self 1)) p1) fun u7 => lt (mR u7 self 7) fun r10 => oB r10 fun n10 => ix (mI u2 self 1) (mN u7 n10) (lt (sI u7 n10 (xN (mI u2 self 1)) p2) fun u8 => lt (mR u8 self 11) fun r11 => oB r11 fun n11 => ix (mI u2 self 1) (mN u8 n11) (lt (sI u8 n11 (xN (mI u2 self 1)) 20) fun u9 => lt (mR u9 self 12) fun r12 => oB r12 fun n12 => ix (mI u2 self 1) (mN u9 n12) (lt (sI u9 n12 (xN (mI u2 self 1)) 10) fun u10 => f_X3_village_L186 self (mI u2 self 1) zFu 0 u10))))))))))))))))))))
set_option maxHeartbeats 4000000 in
theorem ct_X3_village (self : Nat) (p0 : Int32) (p1 : Int32) (p2 : Int32) (t_self : kd self = 3) : zMet yX3_village cX3_village 6 (some .int) 2 25 rvI (obT) [.ref self, .int p0, .int p1, .int p2] (f_X3_village self p0 p1 p2) := by
  refine zMet_of (A := [(0, .ref self), (1, .int p0), (2, .int p1), (3, .int p2)]) (B := []) (ini := false) RX3 rfl (by decide +kernel) (fun h => by cases h) (by simp [lg_sl, Value.category]) (by simp [lv_args, Value.category]) rfl (by simp [lv_args, Value.category]) fun u => ?_
  unfold f_X3_village
  refine go_iload_n (pc := 0) (j := 1) (i := 1) dX3_village_0 rfl rfl ?_
  refine go_if_lt (pc := 1) (tgt := 81) dX3_village_1 (by decide) (fun h1 => ?_) (fun h1 => ?_)
  · refine go_iconst (pc := 81) (v := (-1)) dX3_village_81 (by decide) ?_
    exact go_ireturn (pc := 82) rfl dX3_village_82
  · refine go_iload_n (pc := 4) (j := 1) (i := 1) dX3_village_4 rfl rfl ?_
    refine go_ldcw (pc := 5) (v := 1000000) dX3_village_5 q1545 ?_
    refine go_idiv (pc := 8) dX3_village_8 (by decide) ?_
    refine go_bipush (pc := 9) (v := 40) dX3_village_9 (by decide) ?_
    refine go_icmp_gt (pc := 11) (tgt := 81) dX3_village_11 (by decide) (fun h2 => ?_) (fun h2 => ?_)
    · refine go_iconst (pc := 81) (v := (-1)) dX3_village_81 (by decide) ?_
      exact go_ireturn (pc := 82) rfl dX3_village_82
    · refine go_iload_n (pc := 14) (j := 1) (i := 1) dX3_village_14 rfl rfl ?_
      refine go_sipush (pc := 15) (v := 10000) dX3_village_15 (by decide) ?_
      refine go_idiv (pc := 18) dX3_village_18 (by decide) ?_
      refine go_bipush (pc := 19) (v := 100) dX3_village_19 (by decide) ?_
      refine go_irem (pc := 21) dX3_village_21 (by decide) ?_
      refine go_bipush (pc := 22) (v := 40) dX3_village_22 (by decide) ?_
      refine go_icmp_gt (pc := 24) (tgt := 81) dX3_village_24 (by decide) (fun h3 => ?_) (fun h3 => ?_)
      · refine go_iconst (pc := 81) (v := (-1)) dX3_village_81 (by decide) ?_
        exact go_ireturn (pc := 82) rfl dX3_village_82
      · refine go_iload_n (pc := 27) (j := 1) (i := 1) dX3_village_27 rfl rfl ?_
        refine go_bipush (pc := 28) (v := 100) dX3_village_28 (by decide) ?_
        refine go_idiv (pc := 30) dX3_village_30 (by decide) ?_
        refine go_bipush (pc := 31) (v := 100) dX3_village_31 (by decide) ?_
        refine go_irem (pc := 33) dX3_village_33 (by decide) ?_
        refine go_bipush (pc := 34) (v := 40) dX3_village_34 (by decide) ?_
        refine go_icmp_gt (pc := 36) (tgt := 81) dX3_village_36 (by decide) (fun h4 => ?_) (fun h4 => ?_)
        · refine go_iconst (pc := 81) (v := (-1)) dX3_village_81 (by decide) ?_
          exact go_ireturn (pc := 82) rfl dX3_village_82
        · refine go_iload_n (pc := 39) (j := 1) (i := 1) dX3_village_39 rfl rfl ?_
          refine go_bipush (pc := 40) (v := 100) dX3_village_40 (by decide) ?_
          refine go_irem (pc := 42) dX3_village_42 (by decide) ?_
          refine go_bipush (pc := 43) (v := 40) dX3_village_43 (by decide) ?_
          refine go_icmp_gt (pc := 45) (tgt := 81) dX3_village_45 (by decide) (fun h5 => ?_) (fun h5 => ?_)
          · refine go_iconst (pc := 81) (v := (-1)) dX3_village_81 (by decide) ?_
            exact go_ireturn (pc := 82) rfl dX3_village_82
          · refine go_iload_n (pc := 48) (j := 2) (i := 2) dX3_village_48 rfl rfl ?_
            refine go_i2l (pc := 49) dX3_village_49 ?_
            refine go_lconst (pc := 50) (v := 1) dX3_village_50 (by decide) ?_
            refine go_ldc2 (pc := 51) (v := 9) dX3_village_51 q1546 ?_
            refine go_callSI (pc := 54) (ct_X3_in (Int32.toInt64 p1) 1 9) lk_X3_274 rfl ⟨by decide, by decide⟩ (Nat.le_of_ble_eq_true rfl) dX3_village_54 rfl fun v1 u1 => ?_
            refine go_if_eq (pc := 57) (tgt := 81) dX3_village_57 (by decide) (fun h6 => ?_) (fun h6 => ?_)
            · refine go_iconst (pc := 81) (v := (-1)) dX3_village_81 (by decide) ?_
              exact go_ireturn (pc := 82) rfl dX3_village_82
            · refine go_iload_n (pc := 60) (j := 3) (i := 3) dX3_village_60 rfl rfl ?_
              refine go_i2l (pc := 61) dX3_village_61 ?_
              refine go_lconst (pc := 62) (v := 0) dX3_village_62 (by decide) ?_
              refine go_ldc2 (pc := 63) (v := 9999) dX3_village_63 q1550 ?_
              refine go_callSI (pc := 66) (ct_X3_in (Int32.toInt64 p2) 0 9999) lk_X3_274 rfl ⟨by decide, by decide⟩ (Nat.le_of_ble_eq_true rfl) dX3_village_66 rfl fun v2 u2 => ?_
              refine go_if_eq (pc := 69) (tgt := 81) dX3_village_69 (by decide) (fun h7 => ?_) (fun h7 => ?_)
              · refine go_iconst (pc := 81) (v := (-1)) dX3_village_81 (by decide) ?_
                exact go_ireturn (pc := 82) rfl dX3_village_82
              · refine go_aload_n (pc := 72) (j := 0) (i := 0) dX3_village_72 rfl rfl ?_
                refine go_getI (pc := 73) (n := self) (ci := 3) (k := 1) fa_X3_270_3 t_self rfl dX3_village_73 ?_
                refine go_bipush (pc := 76) (v := 8) dX3_village_76 (by decide) ?_
                refine go_icmp_ne (pc := 78) (tgt := 83) dX3_village_78 (by decide) (fun h8 => ?_) (fun h8 => ?_)
                · refine go_iconst (pc := 81) (v := (-1)) dX3_village_81 (by decide) ?_
                  exact go_ireturn (pc := 82) rfl dX3_village_82
                · refine go_aload_n (pc := 83) (j := 0) (i := 0) dX3_village_83 rfl rfl ?_
                  refine go_getI (pc := 84) (n := self) (ci := 3) (k := 1) fa_X3_270_3 t_self rfl dX3_village_84 ?_
                  refine go_istore (pc := 87) (i := 4) (A' := [(0, .ref self), (1, .int p0), (2, .int p1), (3, .int p2), (4, .int (mI u2 self 1))]) (by decide) rfl rfl rfl dX3_village_87 ?_
                  refine go_aload_n (pc := 89) (j := 0) (i := 0) dX3_village_89 rfl rfl ?_
                  refine go_getR (pc := 90) (n := self) (ci := 3) (k := 3) (t := 23) fa_X3_11_3 t_self rfl dX3_village_90 fun r1 t_r1 => ?_
                  refine go_iload (pc := 93) (i := 4) dX3_village_93 rfl ?_
                  refine go_oB fun n1 e_n1 => ?_
                  have t_n1 := t_r1 n1 e_n1
                  subst e_n1
                  refine go_aald (pc := 95) (n := n1) (ci := 23) (t := 13) (by decide) (by decide) t_n1 rfl dX3_village_95 fun r2 t_r2 => ?_
                  refine go_iconst (pc := 96) (v := 0) dX3_village_96 (by decide) ?_
                  refine go_iload_n (pc := 97) (j := 1) (i := 1) dX3_village_97 rfl rfl ?_
                  refine go_ldcw (pc := 98) (v := 1000000) dX3_village_98 q1545 ?_
                  refine go_idiv (pc := 101) dX3_village_101 (by decide) ?_
                  refine go_oB fun n2 e_n2 => ?_
                  have t_n2 := t_r2 n2 e_n2
                  subst e_n2
                  refine go_iast (pc := 102) t_n2 dX3_village_102 fun u3 => ?_
                  refine go_aload_n (pc := 103) (j := 0) (i := 0) dX3_village_103 rfl rfl ?_
                  refine go_getR (pc := 104) (n := self) (ci := 3) (k := 3) (t := 23) fa_X3_11_3 t_self rfl dX3_village_104 fun r3 t_r3 => ?_
                  refine go_iload (pc := 107) (i := 4) dX3_village_107 rfl ?_
                  refine go_oB fun n3 e_n3 => ?_
                  have t_n3 := t_r3 n3 e_n3
                  subst e_n3
                  refine go_aald (pc := 109) (n := n3) (ci := 23) (t := 13) (by decide) (by decide) t_n3 rfl dX3_village_109 fun r4 t_r4 => ?_
                  refine go_iconst (pc := 110) (v := 1) dX3_village_110 (by decide) ?_
                  refine go_iload_n (pc := 111) (j := 1) (i := 1) dX3_village_111 rfl rfl ?_
                  refine go_sipush (pc := 112) (v := 10000) dX3_village_112 (by decide) ?_
                  refine go_idiv (pc := 115) dX3_village_115 (by decide) ?_
                  refine go_bipush (pc := 116) (v := 100) dX3_village_116 (by decide) ?_
                  refine go_irem (pc := 118) dX3_village_118 (by decide) ?_
                  refine go_oB fun n4 e_n4 => ?_
                  have t_n4 := t_r4 n4 e_n4
                  subst e_n4
                  refine go_iast (pc := 119) t_n4 dX3_village_119 fun u4 => ?_
                  refine go_aload_n (pc := 120) (j := 0) (i := 0) dX3_village_120 rfl rfl ?_
                  refine go_getR (pc := 121) (n := self) (ci := 3) (k := 3) (t := 23) fa_X3_11_3 t_self rfl dX3_village_121 fun r5 t_r5 => ?_
                  refine go_iload (pc := 124) (i := 4) dX3_village_124 rfl ?_
                  refine go_oB fun n5 e_n5 => ?_
                  have t_n5 := t_r5 n5 e_n5
                  subst e_n5
                  refine go_aald (pc := 126) (n := n5) (ci := 23) (t := 13) (by decide) (by decide) t_n5 rfl dX3_village_126 fun r6 t_r6 => ?_
                  refine go_iconst (pc := 127) (v := 2) dX3_village_127 (by decide) ?_
                  refine go_iload_n (pc := 128) (j := 1) (i := 1) dX3_village_128 rfl rfl ?_
                  refine go_bipush (pc := 129) (v := 100) dX3_village_129 (by decide) ?_
                  refine go_idiv (pc := 131) dX3_village_131 (by decide) ?_
                  refine go_bipush (pc := 132) (v := 100) dX3_village_132 (by decide) ?_
                  refine go_irem (pc := 134) dX3_village_134 (by decide) ?_
                  refine go_oB fun n6 e_n6 => ?_
                  have t_n6 := t_r6 n6 e_n6
                  subst e_n6
                  refine go_iast (pc := 135) t_n6 dX3_village_135 fun u5 => ?_
                  refine go_aload_n (pc := 136) (j := 0) (i := 0) dX3_village_136 rfl rfl ?_
                  refine go_getR (pc := 137) (n := self) (ci := 3) (k := 3) (t := 23) fa_X3_11_3 t_self rfl dX3_village_137 fun r7 t_r7 => ?_
                  refine go_iload (pc := 140) (i := 4) dX3_village_140 rfl ?_
                  refine go_oB fun n7 e_n7 => ?_
                  have t_n7 := t_r7 n7 e_n7
                  subst e_n7
                  refine go_aald (pc := 142) (n := n7) (ci := 23) (t := 13) (by decide) (by decide) t_n7 rfl dX3_village_142 fun r8 t_r8 => ?_
                  refine go_iconst (pc := 143) (v := 3) dX3_village_143 (by decide) ?_
                  refine go_iload_n (pc := 144) (j := 1) (i := 1) dX3_village_144 rfl rfl ?_
                  refine go_bipush (pc := 145) (v := 100) dX3_village_145 (by decide) ?_
                  refine go_irem (pc := 147) dX3_village_147 (by decide) ?_
                  refine go_oB fun n8 e_n8 => ?_
                  have t_n8 := t_r8 n8 e_n8
                  subst e_n8
                  refine go_iast (pc := 148) t_n8 dX3_village_148 fun u6 => ?_
                  refine go_aload_n (pc := 149) (j := 0) (i := 0) dX3_village_149 rfl rfl ?_
                  refine go_getR (pc := 150) (n := self) (ci := 3) (k := 6) (t := 13) fa_X3_20_3 t_self rfl dX3_village_150 fun r9 t_r9 => ?_
                  refine go_iload (pc := 153) (i := 4) dX3_village_153 rfl ?_
                  refine go_iload_n (pc := 155) (j := 2) (i := 2) dX3_village_155 rfl rfl ?_
                  refine go_oB fun n9 e_n9 => ?_
                  have t_n9 := t_r9 n9 e_n9
                  subst e_n9
                  refine go_iast (pc := 156) t_n9 dX3_village_156 fun u7 => ?_
                  refine go_aload_n (pc := 157) (j := 0) (i := 0) dX3_village_157 rfl rfl ?_
                  refine go_getR (pc := 158) (n := self) (ci := 3) (k := 7) (t := 13) fa_X3_24_3 t_self rfl dX3_village_158 fun r10 t_r10 => ?_
                  refine go_iload (pc := 161) (i := 4) dX3_village_161 rfl ?_
                  refine go_iload_n (pc := 163) (j := 3) (i := 3) dX3_village_163 rfl rfl ?_
                  refine go_oB fun n10 e_n10 => ?_
                  have t_n10 := t_r10 n10 e_n10
                  subst e_n10
                  refine go_iast (pc := 164) t_n10 dX3_village_164 fun u8 => ?_
                  refine go_aload_n (pc := 165) (j := 0) (i := 0) dX3_village_165 rfl rfl ?_
                  refine go_getR (pc := 166) (n := self) (ci := 3) (k := 11) (t := 13) fa_X3_36_3 t_self rfl dX3_village_166 fun r11 t_r11 => ?_
                  refine go_iload (pc := 169) (i := 4) dX3_village_169 rfl ?_
                  refine go_bipush (pc := 171) (v := 20) dX3_village_171 (by decide) ?_
                  refine go_oB fun n11 e_n11 => ?_
                  have t_n11 := t_r11 n11 e_n11
                  subst e_n11
                  refine go_iast (pc := 173) t_n11 dX3_village_173 fun u9 => ?_
                  refine go_aload_n (pc := 174) (j := 0) (i := 0) dX3_village_174 rfl rfl ?_
                  refine go_getR (pc := 175) (n := self) (ci := 3) (k := 12) (t := 13) fa_X3_39_3 t_self rfl dX3_village_175 fun r12 t_r12 => ?_
                  refine go_iload (pc := 178) (i := 4) dX3_village_178 rfl ?_
                  refine go_bipush (pc := 180) (v := 10) dX3_village_180 (by decide) ?_
                  refine go_oB fun n12 e_n12 => ?_
                  have t_n12 := t_r12 n12 e_n12
                  subst e_n12
                  refine go_iast (pc := 182) t_n12 dX3_village_182 fun u10 => ?_
                  refine go_iconst (pc := 183) (v := 0) dX3_village_183 (by decide) ?_
                  refine go_istore (pc := 184) (i := 5) (A' := [(0, .ref self), (1, .int p0), (2, .int p1), (3, .int p2), (4, .int (mI u2 self 1)), (5, .int 0)]) (by decide) rfl rfl rfl dX3_village_184 ?_
                  exact go_weak (A' := [(0, .ref self), (4, .int (mI u2 self 1)), (5, .int 0)]) (B' := []) ⟨rfl, rfl, rfl, trivial⟩ rfl (fun q h => by cases h) (g_X3_village_L186 self (mI u2 self 1) t_self zFu 0 u10)

def f_X3_isVillage (self : Nat) (p0 : Int32) (u : zM) : Option (Int32 × zM) := bd (f_X3_in (Int32.toInt64 p0) 0 (Int32.toInt64 ((mI u self 1) - 1)) u) fun v1 u1 => gb v1 (some (v1, u1))
set_option maxHeartbeats 4000000 in
theorem ct_X3_isVillage (self : Nat) (p0 : Int32) (t_self : kd self = 3) : zMet yX3_isVillage cX3_isVillage 2 (some .boolean) 2 25 rvI (obT) [.ref self, .int p0] (f_X3_isVillage self p0) := by
  refine zMet_of (A := [(0, .ref self), (1, .int p0)]) (B := []) (ini := false) RX3 rfl (by decide +kernel) (fun h => by cases h) (by simp [lg_sl, Value.category]) (by simp [lv_args, Value.category]) rfl (by simp [lv_args, Value.category]) fun u => ?_
  unfold f_X3_isVillage
  refine go_iload_n (pc := 0) (j := 1) (i := 1) dX3_isVillage_0 rfl rfl ?_
  refine go_i2l (pc := 1) dX3_isVillage_1 ?_
  refine go_lconst (pc := 2) (v := 0) dX3_isVillage_2 (by decide) ?_
  refine go_aload_n (pc := 3) (j := 0) (i := 0) dX3_isVillage_3 rfl rfl ?_
  refine go_getI (pc := 4) (n := self) (ci := 3) (k := 1) fa_X3_270_3 t_self rfl dX3_isVillage_4 ?_
  refine go_iconst (pc := 7) (v := 1) dX3_isVillage_7 (by decide) ?_
  refine go_isub (pc := 8) dX3_isVillage_8 ?_
  refine go_i2l (pc := 9) dX3_isVillage_9 ?_
  refine go_callSI (pc := 10) (ct_X3_in (Int32.toInt64 p0) 0 (Int32.toInt64 ((mI u self 1) - 1))) lk_X3_274 rfl ⟨by decide, by decide⟩ (Nat.le_of_ble_eq_true rfl) dX3_isVillage_10 rfl fun v1 u1 => ?_
  exact go_zreturn (pc := 13) rfl dX3_isVillage_13

def f_X3_road (self : Nat) (p0 : Int32) (p1 : Int32) (p2 : Int32) (u : zM) : Option (Int32 × zM) := bd (f_X3_isVillage self p0 u) fun v1 u1 => if v1 = 0 then (gb 0 (some (0, u1))) else (bd (f_X3_isVillage self p1 u1) fun v2 u2 => if v2 = 0 then (gb 0 (some (0, u2))) else (if p0 = p1 then (gb 0 (some (0, u2))) else (bd (f_X3_in (Int32.toInt64 p2) 1 9 u2) fun v3 u3 => if v3 = 0 then (gb 0 (some (0, u3))) else (lt (mR u3 self 4) fun r1 => oB r1 fun n1 => ix p0 (mN u3 n1) (lt (mR u3 n1 (xN p0)) fun r2 => oB r2 fun n2 => ix p1 (mN u3 n2) (lt (sI u3 n2 (xN p1) p2) fun u4 => lt (mR u4 self 4) fun r3 => oB r3 fun n3 => ix p1 (mN u4 n3) (lt (mR u4 n3 (xN p1)) fun r4 => oB r4 fun n4 => ix p0 (mN u4 n4) (lt (sI u4 n4 (xN p0) p2) fun u5 => gb 1 (some (1, u5))))))))))
set_option maxHeartbeats 4000000 in
theorem ct_X3_road (self : Nat) (p0 : Int32) (p1 : Int32) (p2 : Int32) (t_self : kd self = 3) : zMet yX3_road cX3_road 4 (some .boolean) 3 46 rvI (obT) [.ref self, .int p0, .int p1, .int p2] (f_X3_road self p0 p1 p2) := by
  refine zMet_of (A := [(0, .ref self), (1, .int p0), (2, .int p1), (3, .int p2)]) (B := []) (ini := false) RX3 rfl (by decide +kernel) (fun h => by cases h) (by simp [lg_sl, Value.category]) (by simp [lv_args, Value.category]) rfl (by simp [lv_args, Value.category]) fun u => ?_
  unfold f_X3_road
  refine go_aload_n (pc := 0) (j := 0) (i := 0) dX3_road_0 rfl rfl ?_
  refine go_iload_n (pc := 1) (j := 1) (i := 1) dX3_road_1 rfl rfl ?_
  refine go_callVI (pc := 2) (ci := 3) (ct_X3_isVillage self p0 t_self) lk_X3_289 rfl rfl rfl (by decide) t_self ⟨by decide, by decide⟩ (Nat.le_of_ble_eq_true rfl) dX3_road_2 rfl fun v1 u1 => ?_
  refine go_if_eq (pc := 5) (tgt := 33) dX3_road_5 (by decide) (fun h1 => ?_) (fun h1 => ?_)
  · refine go_iconst (pc := 33) (v := 0) dX3_road_33 (by decide) ?_
    exact go_zreturn (pc := 34) rfl dX3_road_34
  · refine go_aload_n (pc := 8) (j := 0) (i := 0) dX3_road_8 rfl rfl ?_
    refine go_iload_n (pc := 9) (j := 2) (i := 2) dX3_road_9 rfl rfl ?_
    refine go_callVI (pc := 10) (ci := 3) (ct_X3_isVillage self p1 t_self) lk_X3_289 rfl rfl rfl (by decide) t_self ⟨by decide, by decide⟩ (Nat.le_of_ble_eq_true rfl) dX3_road_10 rfl fun v2 u2 => ?_
    refine go_if_eq (pc := 13) (tgt := 33) dX3_road_13 (by decide) (fun h2 => ?_) (fun h2 => ?_)
    · refine go_iconst (pc := 33) (v := 0) dX3_road_33 (by decide) ?_
      exact go_zreturn (pc := 34) rfl dX3_road_34
    · refine go_iload_n (pc := 16) (j := 1) (i := 1) dX3_road_16 rfl rfl ?_
      refine go_iload_n (pc := 17) (j := 2) (i := 2) dX3_road_17 rfl rfl ?_
      refine go_icmp_eq (pc := 18) (tgt := 33) dX3_road_18 (by decide) (fun h3 => ?_) (fun h3 => ?_)
      · refine go_iconst (pc := 33) (v := 0) dX3_road_33 (by decide) ?_
        exact go_zreturn (pc := 34) rfl dX3_road_34
      · refine go_iload_n (pc := 21) (j := 3) (i := 3) dX3_road_21 rfl rfl ?_
        refine go_i2l (pc := 22) dX3_road_22 ?_
        refine go_lconst (pc := 23) (v := 1) dX3_road_23 (by decide) ?_
        refine go_ldc2 (pc := 24) (v := 9) dX3_road_24 q1546 ?_
        refine go_callSI (pc := 27) (ct_X3_in (Int32.toInt64 p2) 1 9) lk_X3_274 rfl ⟨by decide, by decide⟩ (Nat.le_of_ble_eq_true rfl) dX3_road_27 rfl fun v3 u3 => ?_
        refine go_if_ne (pc := 30) (tgt := 35) dX3_road_30 (by decide) (fun h4 => ?_) (fun h4 => ?_)
        · refine go_iconst (pc := 33) (v := 0) dX3_road_33 (by decide) ?_
          exact go_zreturn (pc := 34) rfl dX3_road_34
        · refine go_aload_n (pc := 35) (j := 0) (i := 0) dX3_road_35 rfl rfl ?_
          refine go_getR (pc := 36) (n := self) (ci := 3) (k := 4) (t := 23) fa_X3_14_3 t_self rfl dX3_road_36 fun r1 t_r1 => ?_
          refine go_iload_n (pc := 39) (j := 1) (i := 1) dX3_road_39 rfl rfl ?_
          refine go_oB fun n1 e_n1 => ?_
          have t_n1 := t_r1 n1 e_n1
          subst e_n1
          refine go_aald (pc := 40) (n := n1) (ci := 23) (t := 13) (by decide) (by decide) t_n1 rfl dX3_road_40 fun r2 t_r2 => ?_
          refine go_iload_n (pc := 41) (j := 2) (i := 2) dX3_road_41 rfl rfl ?_
          refine go_iload_n (pc := 42) (j := 3) (i := 3) dX3_road_42 rfl rfl ?_
          refine go_oB fun n2 e_n2 => ?_
          have t_n2 := t_r2 n2 e_n2
          subst e_n2
          refine go_iast (pc := 43) t_n2 dX3_road_43 fun u4 => ?_
          refine go_aload_n (pc := 44) (j := 0) (i := 0) dX3_road_44 rfl rfl ?_
          refine go_getR (pc := 45) (n := self) (ci := 3) (k := 4) (t := 23) fa_X3_14_3 t_self rfl dX3_road_45 fun r3 t_r3 => ?_
          refine go_iload_n (pc := 48) (j := 2) (i := 2) dX3_road_48 rfl rfl ?_
          refine go_oB fun n3 e_n3 => ?_
          have t_n3 := t_r3 n3 e_n3
          subst e_n3
          refine go_aald (pc := 49) (n := n3) (ci := 23) (t := 13) (by decide) (by decide) t_n3 rfl dX3_road_49 fun r4 t_r4 => ?_
          refine go_iload_n (pc := 50) (j := 1) (i := 1) dX3_road_50 rfl rfl ?_
          refine go_iload_n (pc := 51) (j := 3) (i := 3) dX3_road_51 rfl rfl ?_
          refine go_oB fun n4 e_n4 => ?_
          have t_n4 := t_r4 n4 e_n4
          subst e_n4
          refine go_iast (pc := 52) t_n4 dX3_road_52 fun u5 => ?_
          refine go_iconst (pc := 53) (v := 1) dX3_road_53 (by decide) ?_
          exact go_zreturn (pc := 54) rfl dX3_road_54

def f_X3_farOf_L2 (x0 : Nat) (x1 : Int32) (x2 : Int32) (k32 : zM → Option (Int32 × zM)) : Nat → Int32 → zM → Option (Int32 × zM)
  | 0, _, _ => none
  | n + 1, x3, u => if (mI u x0 1) ≤ x3 then (k32 u) else (lt (mR u x0 39) fun r1 => lt (fun (z1 : Int32) (u1 : zM) => oB r1 fun n1 => ix x3 (mN u1 n1) (lt (sI u1 n1 (xN x3) z1) fun u2 => f_X3_farOf_L2 x0 x1 x2 k32 n (x3 + 1) u2)) fun j1 => if x3 = x1 then (j1 0 u) else (j1 (-1) u))
section
variable {c0 s0 : Nat} {tbv : List ExceptionTableEntry}
set_option maxHeartbeats 4000000 in
theorem g_X3_farOf_L2 (x0 : Nat) (x1 : Int32) (x2 : Int32) (k32 : zM → Option (Int32 × zM)) (t_x0 : kd x0 = 3) (hk32 : ∀ (u : zM), Go RX3 cX3_farOf 6 (some .int) false 1 0 [] (obT) (zQ rvI) c0 s0 32 [(0, .ref x0), (2, .int x2)] [] [] u (k32 u)) : ∀ (n : Nat) (x3 : Int32) (u : zM), Go RX3 cX3_farOf 6 (some .int) false 1 0 [] (obT) (zQ rvI) c0 s0 2 [(0, .ref x0), (1, .int x1), (2, .int x2), (3, .int x3)] [] [] u (f_X3_farOf_L2 x0 x1 x2 k32 n x3 u) := by
  intro n
  induction n with
  | zero => intros; exact go_none
  | succ n ih =>
    intro x3 u
    unfold f_X3_farOf_L2
    refine go_iload_n (pc := 2) (j := 3) (i := 3) dX3_farOf_2 rfl rfl ?_
    refine go_aload_n (pc := 3) (j := 0) (i := 0) dX3_farOf_3 rfl rfl ?_
    refine go_getI (pc := 4) (n := x0) (ci := 3) (k := 1) fa_X3_270_3 t_x0 rfl dX3_farOf_4 ?_
    refine go_icmp_ge (pc := 7) (tgt := 32) dX3_farOf_7 (by decide) (fun h1 => ?_) (fun h1 => ?_)
    · exact go_weak (A' := [(0, .ref x0), (2, .int x2)]) (B' := []) ⟨rfl, rfl, trivial⟩ rfl (fun q h => by cases h) (hk32 u)
    · refine go_aload_n (pc := 10) (j := 0) (i := 0) dX3_farOf_10 rfl rfl ?_
      refine go_getR (pc := 11) (n := x0) (ci := 3) (k := 39) (t := 13) fa_X3_118_3 t_x0 rfl dX3_farOf_11 fun r1 t_r1 => ?_
      refine go_iload_n (pc := 14) (j := 3) (i := 3) dX3_farOf_14 rfl rfl ?_
      refine go_iload_n (pc := 15) (j := 3) (i := 3) dX3_farOf_15 rfl rfl ?_
      refine go_iload_n (pc := 16) (j := 1) (i := 1) dX3_farOf_16 rfl rfl ?_
      refine go_join1 (pcx := 25) (α1 := Int32) (fun z1 => [(0, .ref x0), (1, .int x1), (2, .int x2), (3, .int x3)]) (fun z1 => []) (fun z1 => [.int z1, .int x3, va_rf r1]) (fun z1 => True) (fun z1 u1 _ => ?_) (fun j1 hj1 => ?_)
      · refine go_oB fun n1 e_n1 => ?_
        have t_n1 := t_r1 n1 e_n1
        subst e_n1
        refine go_iast (pc := 25) t_n1 dX3_farOf_25 fun u2 => ?_
        refine go_iinc (pc := 26) (i := 3) (w := 1) (A' := [(0, .ref x0), (1, .int x1), (2, .int x2), (3, .int (x3 + 1))]) rfl (by decide) (by decide) rfl rfl rfl dX3_farOf_26 ?_
        refine go_goto (pc := 29) (tgt := 2) dX3_farOf_29 (by decide) ?_
        exact go_weak (A' := [(0, .ref x0), (1, .int x1), (2, .int x2), (3, .int (x3 + 1))]) (B' := []) ⟨rfl, rfl, rfl, rfl, trivial⟩ rfl (fun q h => by cases h) (ih (x3 + 1) u2)
      · refine go_icmp_ne (pc := 17) (tgt := 24) dX3_farOf_17 (by decide) (fun h2 => ?_) (fun h2 => ?_)
        · refine go_iconst (pc := 20) (v := 0) dX3_farOf_20 (by decide) ?_
          refine go_goto (pc := 21) (tgt := 25) dX3_farOf_21 (by decide) ?_
          exact go_weak (A' := [(0, .ref x0), (1, .int x1), (2, .int x2), (3, .int x3)]) (B' := []) ⟨rfl, rfl, rfl, rfl, trivial⟩ rfl (fun q h => by cases h) (hj1 0 u trivial)
        · refine go_iconst (pc := 24) (v := (-1)) dX3_farOf_24 (by decide) ?_
          exact go_weak (A' := [(0, .ref x0), (1, .int x1), (2, .int x2), (3, .int x3)]) (B' := []) ⟨rfl, rfl, rfl, rfl, trivial⟩ rfl (fun q h => by cases h) (hj1 (-1) u trivial)
end
def f_X3_farOf_L57 (x0 : Nat) (x2 : Int32) (x3 : Int32) (x4 : Int32) (k163 : zM → Option (Int32 × zM)) : Nat → Int32 → zM → Option (Int32 × zM)
  | 0, _, _ => none
  | n + 1, x5, u => if (mI u x0 1) ≤ x5 then (k163 u) else (lt (mR u x0 39) fun r3 => oB r3 fun n3 => ix x4 (mN u n3) (lt (fun (u4 : zM) => f_X3_farOf_L57 x0 x2 x3 x4 k163 n (x5 + 1) u4) fun j2 => if (mI u n3 (xN x4)) = (-1) then (j2 u) else (lt (mR u x0 4) fun r4 => oB r4 fun n4 => ix x4 (mN u n4) (lt (mR u n4 (xN x4)) fun r5 => oB r5 fun n5 => ix x5 (mN u n5) (if (mI u n5 (xN x5)) = 0 then (j2 u) else (lt (mR u x0 39) fun r6 => oB r6 fun n6 => ix x5 (mN u n6) (lt (fun (u5 : zM) => lt (mR u5 x0 39) fun r7 => lt (mR u5 x0 39) fun r8 => oB r8 fun n7 => ix x4 (mN u5 n7) (lt (mR u5 x0 4) fun r9 => oB r9 fun n8 => ix x4 (mN u5 n8) (lt (mR u5 n8 (xN x4)) fun r10 => oB r10 fun n9 => ix x5 (mN u5 n9) (oB r7 fun n10 => ix x5 (mN u5 n10) (lt (sI u5 n10 (xN x5) ((mI u5 n7 (xN x4)) + (mI u5 n9 (xN x5)))) fun u6 => j2 u6))))) fun j3 => if (mI u n6 (xN x5)) = (-1) then (j3 u) else (lt (mR u x0 39) fun r11 => oB r11 fun n11 => ix x4 (mN u n11) (lt (mR u x0 4) fun r12 => oB r12 fun n12 => ix x4 (mN u n12) (lt (mR u n12 (xN x4)) fun r13 => oB r13 fun n13 => ix x5 (mN u n13) (lt (mR u x0 39) fun r14 => oB r14 fun n14 => ix x5 (mN u n14) (if (mI u n14 (xN x5)) ≤ ((mI u n11 (xN x4)) + (mI u n13 (xN x5))) then (j2 u) else (j3 u)))))))))))))
section
variable {c0 s0 : Nat} {tbv : List ExceptionTableEntry}
set_option maxHeartbeats 4000000 in
theorem g_X3_farOf_L57 (x0 : Nat) (x2 : Int32) (x3 : Int32) (x4 : Int32) (k163 : zM → Option (Int32 × zM)) (t_x0 : kd x0 = 3) (hk163 : ∀ (u : zM), Go RX3 cX3_farOf 6 (some .int) false 1 0 [] (obT) (zQ rvI) c0 s0 163 [(0, .ref x0), (2, .int x2), (3, .int x3), (4, .int x4)] [] [] u (k163 u)) : ∀ (n : Nat) (x5 : Int32) (u : zM), Go RX3 cX3_farOf 6 (some .int) false 1 0 [] (obT) (zQ rvI) c0 s0 57 [(0, .ref x0), (2, .int x2), (3, .int x3), (4, .int x4), (5, .int x5)] [] [] u (f_X3_farOf_L57 x0 x2 x3 x4 k163 n x5 u) := by
  intro n
  induction n with
  | zero => intros; exact go_none
  | succ n ih =>
    intro x5 u
    unfold f_X3_farOf_L57
    refine go_iload (pc := 57) (i := 5) dX3_farOf_57 rfl ?_
    refine go_aload_n (pc := 59) (j := 0) (i := 0) dX3_farOf_59 rfl rfl ?_
    refine go_getI (pc := 60) (n := x0) (ci := 3) (k := 1) fa_X3_270_3 t_x0 rfl dX3_farOf_60 ?_
    refine go_icmp_ge (pc := 63) (tgt := 163) dX3_farOf_63 (by decide) (fun h5 => ?_) (fun h5 => ?_)
    · exact go_weak (A' := [(0, .ref x0), (2, .int x2), (3, .int x3), (4, .int x4)]) (B' := []) ⟨rfl, rfl, rfl, rfl, trivial⟩ rfl (fun q h => by cases h) (hk163 u)
    · refine go_aload_n (pc := 66) (j := 0) (i := 0) dX3_farOf_66 rfl rfl ?_
      refine go_getR (pc := 67) (n := x0) (ci := 3) (k := 39) (t := 13) fa_X3_118_3 t_x0 rfl dX3_farOf_67 fun r3 t_r3 => ?_
      refine go_iload (pc := 70) (i := 4) dX3_farOf_70 rfl ?_
      refine go_oB fun n3 e_n3 => ?_
      have t_n3 := t_r3 n3 e_n3
      subst e_n3
      refine go_iald (pc := 72) t_n3 dX3_farOf_72 ?_
      refine go_iconst (pc := 73) (v := (-1)) dX3_farOf_73 (by decide) ?_
      refine go_join0 (pcx := 157) ([(0, .ref x0), (2, .int x2), (3, .int x3), (4, .int x4), (5, .int x5)]) ([]) ([]) (True) (fun u4 _ => ?_) (fun j2 hj2 => ?_)
      · refine go_iinc (pc := 157) (i := 5) (w := 1) (A' := [(0, .ref x0), (2, .int x2), (3, .int x3), (4, .int x4), (5, .int (x5 + 1))]) rfl (by decide) (by decide) rfl rfl rfl dX3_farOf_157 ?_
        refine go_goto (pc := 160) (tgt := 57) dX3_farOf_160 (by decide) ?_
        exact go_weak (A' := [(0, .ref x0), (2, .int x2), (3, .int x3), (4, .int x4), (5, .int (x5 + 1))]) (B' := []) ⟨rfl, rfl, rfl, rfl, rfl, trivial⟩ rfl (fun q h => by cases h) (ih (x5 + 1) u4)
      · refine go_icmp_eq (pc := 74) (tgt := 157) dX3_farOf_74 (by decide) (fun h6 => ?_) (fun h6 => ?_)
        · exact go_weak (A' := [(0, .ref x0), (2, .int x2), (3, .int x3), (4, .int x4), (5, .int x5)]) (B' := []) ⟨rfl, rfl, rfl, rfl, rfl, trivial⟩ rfl (fun q h => by cases h) (hj2 u trivial)
        · refine go_aload_n (pc := 77) (j := 0) (i := 0) dX3_farOf_77 rfl rfl ?_
          refine go_getR (pc := 78) (n := x0) (ci := 3) (k := 4) (t := 23) fa_X3_14_3 t_x0 rfl dX3_farOf_78 fun r4 t_r4 => ?_
          refine go_iload (pc := 81) (i := 4) dX3_farOf_81 rfl ?_
          refine go_oB fun n4 e_n4 => ?_
          have t_n4 := t_r4 n4 e_n4
          subst e_n4
          refine go_aald (pc := 83) (n := n4) (ci := 23) (t := 13) (by decide) (by decide) t_n4 rfl dX3_farOf_83 fun r5 t_r5 => ?_
          refine go_iload (pc := 84) (i := 5) dX3_farOf_84 rfl ?_
          refine go_oB fun n5 e_n5 => ?_
          have t_n5 := t_r5 n5 e_n5
          subst e_n5
          refine go_iald (pc := 86) t_n5 dX3_farOf_86 ?_
          refine go_if_ne (pc := 87) (tgt := 93) dX3_farOf_87 (by decide) (fun h7 => ?_) (fun h7 => ?_)
          · refine go_goto (pc := 90) (tgt := 157) dX3_farOf_90 (by decide) ?_
            exact go_weak (A' := [(0, .ref x0), (2, .int x2), (3, .int x3), (4, .int x4), (5, .int x5)]) (B' := []) ⟨rfl, rfl, rfl, rfl, rfl, trivial⟩ rfl (fun q h => by cases h) (hj2 u trivial)
          · refine go_aload_n (pc := 93) (j := 0) (i := 0) dX3_farOf_93 rfl rfl ?_
            refine go_getR (pc := 94) (n := x0) (ci := 3) (k := 39) (t := 13) fa_X3_118_3 t_x0 rfl dX3_farOf_94 fun r6 t_r6 => ?_
            refine go_iload (pc := 97) (i := 5) dX3_farOf_97 rfl ?_
            refine go_oB fun n6 e_n6 => ?_
            have t_n6 := t_r6 n6 e_n6
            subst e_n6
            refine go_iald (pc := 99) t_n6 dX3_farOf_99 ?_
            refine go_iconst (pc := 100) (v := (-1)) dX3_farOf_100 (by decide) ?_
            refine go_join0 (pcx := 132) ([(0, .ref x0), (2, .int x2), (3, .int x3), (4, .int x4), (5, .int x5)]) ([]) ([]) (True) (fun u5 _ => ?_) (fun j3 hj3 => ?_)
            · refine go_aload_n (pc := 132) (j := 0) (i := 0) dX3_farOf_132 rfl rfl ?_
              refine go_getR (pc := 133) (n := x0) (ci := 3) (k := 39) (t := 13) fa_X3_118_3 t_x0 rfl dX3_farOf_133 fun r7 t_r7 => ?_
              refine go_iload (pc := 136) (i := 5) dX3_farOf_136 rfl ?_
              refine go_aload_n (pc := 138) (j := 0) (i := 0) dX3_farOf_138 rfl rfl ?_
              refine go_getR (pc := 139) (n := x0) (ci := 3) (k := 39) (t := 13) fa_X3_118_3 t_x0 rfl dX3_farOf_139 fun r8 t_r8 => ?_
              refine go_iload (pc := 142) (i := 4) dX3_farOf_142 rfl ?_
              refine go_oB fun n7 e_n7 => ?_
              have t_n7 := t_r8 n7 e_n7
              subst e_n7
              refine go_iald (pc := 144) t_n7 dX3_farOf_144 ?_
              refine go_aload_n (pc := 145) (j := 0) (i := 0) dX3_farOf_145 rfl rfl ?_
              refine go_getR (pc := 146) (n := x0) (ci := 3) (k := 4) (t := 23) fa_X3_14_3 t_x0 rfl dX3_farOf_146 fun r9 t_r9 => ?_
              refine go_iload (pc := 149) (i := 4) dX3_farOf_149 rfl ?_
              refine go_oB fun n8 e_n8 => ?_
              have t_n8 := t_r9 n8 e_n8
              subst e_n8
              refine go_aald (pc := 151) (n := n8) (ci := 23) (t := 13) (by decide) (by decide) t_n8 rfl dX3_farOf_151 fun r10 t_r10 => ?_
              refine go_iload (pc := 152) (i := 5) dX3_farOf_152 rfl ?_
              refine go_oB fun n9 e_n9 => ?_
              have t_n9 := t_r10 n9 e_n9
              subst e_n9
              refine go_iald (pc := 154) t_n9 dX3_farOf_154 ?_
              refine go_iadd (pc := 155) dX3_farOf_155 ?_
              refine go_oB fun n10 e_n10 => ?_
              have t_n10 := t_r7 n10 e_n10
              subst e_n10
              refine go_iast (pc := 156) t_n10 dX3_farOf_156 fun u6 => ?_
              exact go_weak (A' := [(0, .ref x0), (2, .int x2), (3, .int x3), (4, .int x4), (5, .int x5)]) (B' := []) ⟨rfl, rfl, rfl, rfl, rfl, trivial⟩ rfl (fun q h => by cases h) (hj2 u6 trivial)
            · refine go_icmp_eq (pc := 101) (tgt := 132) dX3_farOf_101 (by decide) (fun h8 => ?_) (fun h8 => ?_)
              · exact go_weak (A' := [(0, .ref x0), (2, .int x2), (3, .int x3), (4, .int x4), (5, .int x5)]) (B' := []) ⟨rfl, rfl, rfl, rfl, rfl, trivial⟩ rfl (fun q h => by cases h) (hj3 u trivial)
              · refine go_aload_n (pc := 104) (j := 0) (i := 0) dX3_farOf_104 rfl rfl ?_
                refine go_getR (pc := 105) (n := x0) (ci := 3) (k := 39) (t := 13) fa_X3_118_3 t_x0 rfl dX3_farOf_105 fun r11 t_r11 => ?_
                refine go_iload (pc := 108) (i := 4) dX3_farOf_108 rfl ?_
                refine go_oB fun n11 e_n11 => ?_
                have t_n11 := t_r11 n11 e_n11
                subst e_n11
                refine go_iald (pc := 110) t_n11 dX3_farOf_110 ?_
                refine go_aload_n (pc := 111) (j := 0) (i := 0) dX3_farOf_111 rfl rfl ?_
                refine go_getR (pc := 112) (n := x0) (ci := 3) (k := 4) (t := 23) fa_X3_14_3 t_x0 rfl dX3_farOf_112 fun r12 t_r12 => ?_
                refine go_iload (pc := 115) (i := 4) dX3_farOf_115 rfl ?_
                refine go_oB fun n12 e_n12 => ?_
                have t_n12 := t_r12 n12 e_n12
                subst e_n12
                refine go_aald (pc := 117) (n := n12) (ci := 23) (t := 13) (by decide) (by decide) t_n12 rfl dX3_farOf_117 fun r13 t_r13 => ?_
                refine go_iload (pc := 118) (i := 5) dX3_farOf_118 rfl ?_
                refine go_oB fun n13 e_n13 => ?_
                have t_n13 := t_r13 n13 e_n13
                subst e_n13
                refine go_iald (pc := 120) t_n13 dX3_farOf_120 ?_
                refine go_iadd (pc := 121) dX3_farOf_121 ?_
                refine go_aload_n (pc := 122) (j := 0) (i := 0) dX3_farOf_122 rfl rfl ?_
                refine go_getR (pc := 123) (n := x0) (ci := 3) (k := 39) (t := 13) fa_X3_118_3 t_x0 rfl dX3_farOf_123 fun r14 t_r14 => ?_
                refine go_iload (pc := 126) (i := 5) dX3_farOf_126 rfl ?_
                refine go_oB fun n14 e_n14 => ?_
                have t_n14 := t_r14 n14 e_n14
                subst e_n14
                refine go_iald (pc := 128) t_n14 dX3_farOf_128 ?_
                refine go_icmp_ge (pc := 129) (tgt := 157) dX3_farOf_129 (by decide) (fun h9 => ?_) (fun h9 => ?_)
                · exact go_weak (A' := [(0, .ref x0), (2, .int x2), (3, .int x3), (4, .int x4), (5, .int x5)]) (B' := []) ⟨rfl, rfl, rfl, rfl, rfl, trivial⟩ rfl (fun q h => by cases h) (hj2 u trivial)
                · exact go_weak (A' := [(0, .ref x0), (2, .int x2), (3, .int x3), (4, .int x4), (5, .int x5)]) (B' := []) ⟨rfl, rfl, rfl, rfl, rfl, trivial⟩ rfl (fun q h => by cases h) (hj3 u trivial)
end
def f_X3_farOf_L45 (x0 : Nat) (x2 : Int32) (x3 : Int32) (k169 : zM → Option (Int32 × zM)) : Nat → Int32 → zM → Option (Int32 × zM)
  | 0, _, _ => none
  | n + 1, x4, u => if (mI u x0 1) ≤ x4 then (k169 u) else (f_X3_farOf_L57 x0 x2 x3 x4 (fun u7 => f_X3_farOf_L45 x0 x2 x3 k169 n (x4 + 1) u7) zFu 0 u)
section
variable {c0 s0 : Nat} {tbv : List ExceptionTableEntry}
set_option maxHeartbeats 4000000 in
theorem g_X3_farOf_L45 (x0 : Nat) (x2 : Int32) (x3 : Int32) (k169 : zM → Option (Int32 × zM)) (t_x0 : kd x0 = 3) (hk169 : ∀ (u : zM), Go RX3 cX3_farOf 6 (some .int) false 1 0 [] (obT) (zQ rvI) c0 s0 169 [(0, .ref x0), (2, .int x2), (3, .int x3)] [] [] u (k169 u)) : ∀ (n : Nat) (x4 : Int32) (u : zM), Go RX3 cX3_farOf 6 (some .int) false 1 0 [] (obT) (zQ rvI) c0 s0 45 [(0, .ref x0), (2, .int x2), (3, .int x3), (4, .int x4)] [] [] u (f_X3_farOf_L45 x0 x2 x3 k169 n x4 u) := by
  intro n
  induction n with
  | zero => intros; exact go_none
  | succ n ih =>
    intro x4 u
    unfold f_X3_farOf_L45
    refine go_iload (pc := 45) (i := 4) dX3_farOf_45 rfl ?_
    refine go_aload_n (pc := 47) (j := 0) (i := 0) dX3_farOf_47 rfl rfl ?_
    refine go_getI (pc := 48) (n := x0) (ci := 3) (k := 1) fa_X3_270_3 t_x0 rfl dX3_farOf_48 ?_
    refine go_icmp_ge (pc := 51) (tgt := 169) dX3_farOf_51 (by decide) (fun h4 => ?_) (fun h4 => ?_)
    · exact go_weak (A' := [(0, .ref x0), (2, .int x2), (3, .int x3)]) (B' := []) ⟨rfl, rfl, rfl, trivial⟩ rfl (fun q h => by cases h) (hk169 u)
    · refine go_iconst (pc := 54) (v := 0) dX3_farOf_54 (by decide) ?_
      refine go_istore (pc := 55) (i := 5) (A' := [(0, .ref x0), (2, .int x2), (3, .int x3), (4, .int x4), (5, .int 0)]) (by decide) rfl rfl rfl dX3_farOf_55 ?_
      refine go_weak (A' := [(0, .ref x0), (2, .int x2), (3, .int x3), (4, .int x4), (5, .int 0)]) (B' := []) ⟨rfl, rfl, rfl, rfl, rfl, trivial⟩ rfl (fun q h => by cases h) (g_X3_farOf_L57 x0 x2 x3 x4 _ t_x0 ?_ zFu 0 u)
      · intro u7
        refine go_iinc (pc := 163) (i := 4) (w := 1) (A' := [(0, .ref x0), (2, .int x2), (3, .int x3), (4, .int (x4 + 1))]) rfl (by decide) (by decide) rfl rfl rfl dX3_farOf_163 ?_
        refine go_goto (pc := 166) (tgt := 45) dX3_farOf_166 (by decide) ?_
        exact go_weak (A' := [(0, .ref x0), (2, .int x2), (3, .int x3), (4, .int (x4 + 1))]) (B' := []) ⟨rfl, rfl, rfl, rfl, trivial⟩ rfl (fun q h => by cases h) (ih (x4 + 1) u7)
end
def f_X3_farOf_L34 (x0 : Nat) (x2 : Int32) : Nat → Int32 → zM → Option (Int32 × zM)
  | 0, _, _ => none
  | n + 1, x3, u => if (mI u x0 1) ≤ x3 then (lt (mR u x0 39) fun r2 => oB r2 fun n2 => ix x2 (mN u n2) (some ((mI u n2 (xN x2)), u))) else (f_X3_farOf_L45 x0 x2 x3 (fun u8 => f_X3_farOf_L34 x0 x2 n (x3 + 1) u8) zFu 0 u)
section
variable {c0 s0 : Nat} {tbv : List ExceptionTableEntry}
set_option maxHeartbeats 4000000 in
theorem g_X3_farOf_L34 (x0 : Nat) (x2 : Int32) (t_x0 : kd x0 = 3) : ∀ (n : Nat) (x3 : Int32) (u : zM), Go RX3 cX3_farOf 6 (some .int) false 1 0 [] (obT) (zQ rvI) c0 s0 34 [(0, .ref x0), (2, .int x2), (3, .int x3)] [] [] u (f_X3_farOf_L34 x0 x2 n x3 u) := by
  intro n
  induction n with
  | zero => intros; exact go_none
  | succ n ih =>
    intro x3 u
    unfold f_X3_farOf_L34
    refine go_iload_n (pc := 34) (j := 3) (i := 3) dX3_farOf_34 rfl rfl ?_
    refine go_aload_n (pc := 35) (j := 0) (i := 0) dX3_farOf_35 rfl rfl ?_
    refine go_getI (pc := 36) (n := x0) (ci := 3) (k := 1) fa_X3_270_3 t_x0 rfl dX3_farOf_36 ?_
    refine go_icmp_ge (pc := 39) (tgt := 175) dX3_farOf_39 (by decide) (fun h3 => ?_) (fun h3 => ?_)
    · refine go_aload_n (pc := 175) (j := 0) (i := 0) dX3_farOf_175 rfl rfl ?_
      refine go_getR (pc := 176) (n := x0) (ci := 3) (k := 39) (t := 13) fa_X3_118_3 t_x0 rfl dX3_farOf_176 fun r2 t_r2 => ?_
      refine go_iload_n (pc := 179) (j := 2) (i := 2) dX3_farOf_179 rfl rfl ?_
      refine go_oB fun n2 e_n2 => ?_
      have t_n2 := t_r2 n2 e_n2
      subst e_n2
      refine go_iald (pc := 180) t_n2 dX3_farOf_180 ?_
      exact go_ireturn (pc := 181) rfl dX3_farOf_181
    · refine go_iconst (pc := 42) (v := 0) dX3_farOf_42 (by decide) ?_
      refine go_istore (pc := 43) (i := 4) (A' := [(0, .ref x0), (2, .int x2), (3, .int x3), (4, .int 0)]) (by decide) rfl rfl rfl dX3_farOf_43 ?_
      refine go_weak (A' := [(0, .ref x0), (2, .int x2), (3, .int x3), (4, .int 0)]) (B' := []) ⟨rfl, rfl, rfl, rfl, trivial⟩ rfl (fun q h => by cases h) (g_X3_farOf_L45 x0 x2 x3 _ t_x0 ?_ zFu 0 u)
      · intro u8
        refine go_iinc (pc := 169) (i := 3) (w := 1) (A' := [(0, .ref x0), (2, .int x2), (3, .int (x3 + 1))]) rfl (by decide) (by decide) rfl rfl rfl dX3_farOf_169 ?_
        refine go_goto (pc := 172) (tgt := 34) dX3_farOf_172 (by decide) ?_
        exact go_weak (A' := [(0, .ref x0), (2, .int x2), (3, .int (x3 + 1))]) (B' := []) ⟨rfl, rfl, rfl, trivial⟩ rfl (fun q h => by cases h) (ih (x3 + 1) u8)
end
def f_X3_farOf (self : Nat) (p0 : Int32) (p1 : Int32) (u : zM) : Option (Int32 × zM) := f_X3_farOf_L2 self p0 p1 (fun u3 => f_X3_farOf_L34 self p1 zFu 0 u3) zFu 0 u
set_option maxHeartbeats 4000000 in
theorem ct_X3_farOf (self : Nat) (p0 : Int32) (p1 : Int32) (t_self : kd self = 3) : zMet yX3_farOf cX3_farOf 6 (some .int) 1 0 rvI (obT) [.ref self, .int p0, .int p1] (f_X3_farOf self p0 p1) := by
  refine zMet_of (A := [(0, .ref self), (1, .int p0), (2, .int p1)]) (B := []) (ini := false) RX3 rfl (by decide +kernel) (fun h => by cases h) (by simp [lg_sl, Value.category]) (by simp [lv_args, Value.category]) rfl (by simp [lv_args, Value.category]) fun u => ?_
  unfold f_X3_farOf
  refine go_iconst (pc := 0) (v := 0) dX3_farOf_0 (by decide) ?_
  refine go_istore_n (pc := 1) (j := 3) (i := 3) (A' := [(0, .ref self), (1, .int p0), (2, .int p1), (3, .int 0)]) rfl (by decide) rfl rfl rfl dX3_farOf_1 ?_
  refine go_weak (A' := [(0, .ref self), (1, .int p0), (2, .int p1), (3, .int 0)]) (B' := []) ⟨rfl, rfl, rfl, rfl, trivial⟩ rfl (fun q h => by cases h) (g_X3_farOf_L2 self p0 p1 _ t_self ?_ zFu 0 u)
  · intro u3
    refine go_iconst (pc := 32) (v := 0) dX3_farOf_32 (by decide) ?_
    refine go_istore_n (pc := 33) (j := 3) (i := 3) (A' := [(0, .ref self), (2, .int p1), (3, .int 0)]) rfl (by decide) rfl rfl rfl dX3_farOf_33 ?_
    exact go_weak (A' := [(0, .ref self), (2, .int p1), (3, .int 0)]) (B' := []) ⟨rfl, rfl, rfl, trivial⟩ rfl (fun q h => by cases h) (g_X3_farOf_L34 self p1 t_self zFu 0 u3)

def f_X3_far (self : Nat) (p0 : Int32) (p1 : Int32) (u : zM) : Option (Int32 × zM) := bd (f_X3_isVillage self p0 u) fun v1 u1 => if v1 = 0 then (some ((-1), u1)) else (bd (f_X3_isVillage self p1 u1) fun v2 u2 => if v2 = 0 then (some ((-1), u2)) else (bd (f_X3_farOf self p0 p1 u2) fun v3 u3 => some (v3, u3)))
set_option maxHeartbeats 4000000 in
theorem ct_X3_far (self : Nat) (p0 : Int32) (p1 : Int32) (t_self : kd self = 3) : zMet yX3_far cX3_far 3 (some .int) 3 46 rvI (obT) [.ref self, .int p0, .int p1] (f_X3_far self p0 p1) := by
  refine zMet_of (A := [(0, .ref self), (1, .int p0), (2, .int p1)]) (B := []) (ini := false) RX3 rfl (by decide +kernel) (fun h => by cases h) (by simp [lg_sl, Value.category]) (by simp [lv_args, Value.category]) rfl (by simp [lv_args, Value.category]) fun u => ?_
  unfold f_X3_far
  refine go_aload_n (pc := 0) (j := 0) (i := 0) dX3_far_0 rfl rfl ?_
  refine go_iload_n (pc := 1) (j := 1) (i := 1) dX3_far_1 rfl rfl ?_
  refine go_callVI (pc := 2) (ci := 3) (ct_X3_isVillage self p0 t_self) lk_X3_289 rfl rfl rfl (by decide) t_self ⟨by decide, by decide⟩ (Nat.le_of_ble_eq_true rfl) dX3_far_2 rfl fun v1 u1 => ?_
  refine go_if_eq (pc := 5) (tgt := 25) dX3_far_5 (by decide) (fun h1 => ?_) (fun h1 => ?_)
  · refine go_iconst (pc := 25) (v := (-1)) dX3_far_25 (by decide) ?_
    exact go_ireturn (pc := 26) rfl dX3_far_26
  · refine go_aload_n (pc := 8) (j := 0) (i := 0) dX3_far_8 rfl rfl ?_
    refine go_iload_n (pc := 9) (j := 2) (i := 2) dX3_far_9 rfl rfl ?_
    refine go_callVI (pc := 10) (ci := 3) (ct_X3_isVillage self p1 t_self) lk_X3_289 rfl rfl rfl (by decide) t_self ⟨by decide, by decide⟩ (Nat.le_of_ble_eq_true rfl) dX3_far_10 rfl fun v2 u2 => ?_
    refine go_if_eq (pc := 13) (tgt := 25) dX3_far_13 (by decide) (fun h2 => ?_) (fun h2 => ?_)
    · refine go_iconst (pc := 25) (v := (-1)) dX3_far_25 (by decide) ?_
      exact go_ireturn (pc := 26) rfl dX3_far_26
    · refine go_aload_n (pc := 16) (j := 0) (i := 0) dX3_far_16 rfl rfl ?_
      refine go_iload_n (pc := 17) (j := 1) (i := 1) dX3_far_17 rfl rfl ?_
      refine go_iload_n (pc := 18) (j := 2) (i := 2) dX3_far_18 rfl rfl ?_
      refine go_callVI (pc := 19) (ci := 3) (ct_X3_farOf self p0 p1 t_self) lk_X3_293 rfl rfl rfl (by decide) t_self ⟨by decide, by decide⟩ (Nat.le_of_ble_eq_true rfl) dX3_far_19 rfl fun v3 u3 => ?_
      refine go_goto (pc := 22) (tgt := 26) dX3_far_22 (by decide) ?_
      exact go_ireturn (pc := 26) rfl dX3_far_26

def f_X3_house (self : Nat) (p0 : Int32) (p1 : Int32) (u : zM) : Option (Int32 × zM) := bd (f_X3_isVillage self p0 u) fun v1 u1 => if v1 = 0 then (some ((-1), u1)) else (if p1 < 0 then (some ((-1), u1)) else (if 5 < (p1 / 1000) then (some ((-1), u1)) else (if ((p1 / 100) - (p1 / 100) / 10 * 10) < 1 then (some ((-1), u1)) else (if 5 < ((p1 / 10) - (p1 / 10) / 10 * 10) then (some ((-1), u1)) else (if (p1 - p1 / 10 * 10) < 1 then (some ((-1), u1)) else (if (mI u1 self 2) = 20 then (some ((-1), u1)) else (if (mI u1 self 0) = 156 then (some ((-1), u1)) else (lt (mR u1 self 20) fun r1 => oB r1 fun n1 => ix (mI u1 self 2) (mN u1 n1) (lt (sI u1 n1 (xN (mI u1 self 2)) p0) fun u2 => lt (mR u2 self 21) fun r2 => oB r2 fun n2 => ix (mI u1 self 2) (mN u2 n2) (lt (sI u2 n2 (xN (mI u1 self 2)) (p1 / 1000)) fun u3 => lt (mR u3 self 22) fun r3 => oB r3 fun n3 => ix (mI u1 self 2) (mN u3 n3) (lt (sI u3 n3 (xN (mI u1 self 2)) ((p1 / 100) - (p1 / 100) / 10 * 10)) fun u4 => lt (mR u4 self 23) fun r4 => oB r4 fun n4 => ix (mI u1 self 2) (mN u4 n4) (lt (sI u4 n4 (xN (mI u1 self 2)) ((p1 / 10) - (p1 / 10) / 10 * 10)) fun u5 => lt (mR u5 self 24) fun r5 => oB r5 fun n5 => ix (mI u1 self 2) (mN u5 n5) (lt (sI u5 n5 (xN (mI u1 self 2)) (p1 - p1 / 10 * 10)) fun u6 => lt (mR u6 self 26) fun r6 => oB r6 fun n6 => ix (mI u1 self 2) (mN u6 n6) (lt (sI u6 n6 (xN (mI u1 self 2)) 10) fun u7 => lt (sI u7 self 2 ((mI u7 self 2) + 1)) fun u8 => some ((mI u1 self 2), u8)))))))))))))))
set_option maxHeartbeats 4000000 in
theorem ct_X3_house (self : Nat) (p0 : Int32) (p1 : Int32) (t_self : kd self = 3) : zMet yX3_house cX3_house 4 (some .int) 3 46 rvI (obT) [.ref self, .int p0, .int p1] (f_X3_house self p0 p1) := by
  refine zMet_of (A := [(0, .ref self), (1, .int p0), (2, .int p1)]) (B := []) (ini := false) RX3 rfl (by decide +kernel) (fun h => by cases h) (by simp [lg_sl, Value.category]) (by simp [lv_args, Value.category]) rfl (by simp [lv_args, Value.category]) fun u => ?_
  unfold f_X3_house
  refine go_aload_n (pc := 0) (j := 0) (i := 0) dX3_house_0 rfl rfl ?_
  refine go_iload_n (pc := 1) (j := 1) (i := 1) dX3_house_1 rfl rfl ?_
  refine go_callVI (pc := 2) (ci := 3) (ct_X3_isVillage self p0 t_self) lk_X3_289 rfl rfl rfl (by decide) t_self ⟨by decide, by decide⟩ (Nat.le_of_ble_eq_true rfl) dX3_house_2 rfl fun v1 u1 => ?_
  refine go_if_eq (pc := 5) (tgt := 70) dX3_house_5 (by decide) (fun h1 => ?_) (fun h1 => ?_)
  · refine go_iconst (pc := 70) (v := (-1)) dX3_house_70 (by decide) ?_
    exact go_ireturn (pc := 71) rfl dX3_house_71
  · refine go_iload_n (pc := 8) (j := 2) (i := 2) dX3_house_8 rfl rfl ?_
    refine go_if_lt (pc := 9) (tgt := 70) dX3_house_9 (by decide) (fun h2 => ?_) (fun h2 => ?_)
    · refine go_iconst (pc := 70) (v := (-1)) dX3_house_70 (by decide) ?_
      exact go_ireturn (pc := 71) rfl dX3_house_71
    · refine go_iload_n (pc := 12) (j := 2) (i := 2) dX3_house_12 rfl rfl ?_
      refine go_sipush (pc := 13) (v := 1000) dX3_house_13 (by decide) ?_
      refine go_idiv (pc := 16) dX3_house_16 (by decide) ?_
      refine go_iconst (pc := 17) (v := 5) dX3_house_17 (by decide) ?_
      refine go_icmp_gt (pc := 18) (tgt := 70) dX3_house_18 (by decide) (fun h3 => ?_) (fun h3 => ?_)
      · refine go_iconst (pc := 70) (v := (-1)) dX3_house_70 (by decide) ?_
        exact go_ireturn (pc := 71) rfl dX3_house_71
      · refine go_iload_n (pc := 21) (j := 2) (i := 2) dX3_house_21 rfl rfl ?_
        refine go_bipush (pc := 22) (v := 100) dX3_house_22 (by decide) ?_
        refine go_idiv (pc := 24) dX3_house_24 (by decide) ?_
        refine go_bipush (pc := 25) (v := 10) dX3_house_25 (by decide) ?_
        refine go_irem (pc := 27) dX3_house_27 (by decide) ?_
        refine go_iconst (pc := 28) (v := 1) dX3_house_28 (by decide) ?_
        refine go_icmp_lt (pc := 29) (tgt := 70) dX3_house_29 (by decide) (fun h4 => ?_) (fun h4 => ?_)
        · refine go_iconst (pc := 70) (v := (-1)) dX3_house_70 (by decide) ?_
          exact go_ireturn (pc := 71) rfl dX3_house_71
        · refine go_iload_n (pc := 32) (j := 2) (i := 2) dX3_house_32 rfl rfl ?_
          refine go_bipush (pc := 33) (v := 10) dX3_house_33 (by decide) ?_
          refine go_idiv (pc := 35) dX3_house_35 (by decide) ?_
          refine go_bipush (pc := 36) (v := 10) dX3_house_36 (by decide) ?_
          refine go_irem (pc := 38) dX3_house_38 (by decide) ?_
          refine go_iconst (pc := 39) (v := 5) dX3_house_39 (by decide) ?_
          refine go_icmp_gt (pc := 40) (tgt := 70) dX3_house_40 (by decide) (fun h5 => ?_) (fun h5 => ?_)
          · refine go_iconst (pc := 70) (v := (-1)) dX3_house_70 (by decide) ?_
            exact go_ireturn (pc := 71) rfl dX3_house_71
          · refine go_iload_n (pc := 43) (j := 2) (i := 2) dX3_house_43 rfl rfl ?_
            refine go_bipush (pc := 44) (v := 10) dX3_house_44 (by decide) ?_
            refine go_irem (pc := 46) dX3_house_46 (by decide) ?_
            refine go_iconst (pc := 47) (v := 1) dX3_house_47 (by decide) ?_
            refine go_icmp_lt (pc := 48) (tgt := 70) dX3_house_48 (by decide) (fun h6 => ?_) (fun h6 => ?_)
            · refine go_iconst (pc := 70) (v := (-1)) dX3_house_70 (by decide) ?_
              exact go_ireturn (pc := 71) rfl dX3_house_71
            · refine go_aload_n (pc := 51) (j := 0) (i := 0) dX3_house_51 rfl rfl ?_
              refine go_getI (pc := 52) (n := self) (ci := 3) (k := 2) fa_X3_278_3 t_self rfl dX3_house_52 ?_
              refine go_bipush (pc := 55) (v := 20) dX3_house_55 (by decide) ?_
              refine go_icmp_eq (pc := 57) (tgt := 70) dX3_house_57 (by decide) (fun h7 => ?_) (fun h7 => ?_)
              · refine go_iconst (pc := 70) (v := (-1)) dX3_house_70 (by decide) ?_
                exact go_ireturn (pc := 71) rfl dX3_house_71
              · refine go_aload_n (pc := 60) (j := 0) (i := 0) dX3_house_60 rfl rfl ?_
                refine go_getI (pc := 61) (n := self) (ci := 3) (k := 0) fa_X3_286_3 t_self rfl dX3_house_61 ?_
                refine go_sipush (pc := 64) (v := 156) dX3_house_64 (by decide) ?_
                refine go_icmp_ne (pc := 67) (tgt := 72) dX3_house_67 (by decide) (fun h8 => ?_) (fun h8 => ?_)
                · refine go_iconst (pc := 70) (v := (-1)) dX3_house_70 (by decide) ?_
                  exact go_ireturn (pc := 71) rfl dX3_house_71
                · refine go_aload_n (pc := 72) (j := 0) (i := 0) dX3_house_72 rfl rfl ?_
                  refine go_getI (pc := 73) (n := self) (ci := 3) (k := 2) fa_X3_278_3 t_self rfl dX3_house_73 ?_
                  refine go_istore_n (pc := 76) (j := 3) (i := 3) (A' := [(0, .ref self), (1, .int p0), (2, .int p1), (3, .int (mI u1 self 2))]) rfl (by decide) rfl rfl rfl dX3_house_76 ?_
                  refine go_aload_n (pc := 77) (j := 0) (i := 0) dX3_house_77 rfl rfl ?_
                  refine go_getR (pc := 78) (n := self) (ci := 3) (k := 20) (t := 13) fa_X3_63_3 t_self rfl dX3_house_78 fun r1 t_r1 => ?_
                  refine go_iload_n (pc := 81) (j := 3) (i := 3) dX3_house_81 rfl rfl ?_
                  refine go_iload_n (pc := 82) (j := 1) (i := 1) dX3_house_82 rfl rfl ?_
                  refine go_oB fun n1 e_n1 => ?_
                  have t_n1 := t_r1 n1 e_n1
                  subst e_n1
                  refine go_iast (pc := 83) t_n1 dX3_house_83 fun u2 => ?_
                  refine go_aload_n (pc := 84) (j := 0) (i := 0) dX3_house_84 rfl rfl ?_
                  refine go_getR (pc := 85) (n := self) (ci := 3) (k := 21) (t := 13) fa_X3_66_3 t_self rfl dX3_house_85 fun r2 t_r2 => ?_
                  refine go_iload_n (pc := 88) (j := 3) (i := 3) dX3_house_88 rfl rfl ?_
                  refine go_iload_n (pc := 89) (j := 2) (i := 2) dX3_house_89 rfl rfl ?_
                  refine go_sipush (pc := 90) (v := 1000) dX3_house_90 (by decide) ?_
                  refine go_idiv (pc := 93) dX3_house_93 (by decide) ?_
                  refine go_oB fun n2 e_n2 => ?_
                  have t_n2 := t_r2 n2 e_n2
                  subst e_n2
                  refine go_iast (pc := 94) t_n2 dX3_house_94 fun u3 => ?_
                  refine go_aload_n (pc := 95) (j := 0) (i := 0) dX3_house_95 rfl rfl ?_
                  refine go_getR (pc := 96) (n := self) (ci := 3) (k := 22) (t := 13) fa_X3_69_3 t_self rfl dX3_house_96 fun r3 t_r3 => ?_
                  refine go_iload_n (pc := 99) (j := 3) (i := 3) dX3_house_99 rfl rfl ?_
                  refine go_iload_n (pc := 100) (j := 2) (i := 2) dX3_house_100 rfl rfl ?_
                  refine go_bipush (pc := 101) (v := 100) dX3_house_101 (by decide) ?_
                  refine go_idiv (pc := 103) dX3_house_103 (by decide) ?_
                  refine go_bipush (pc := 104) (v := 10) dX3_house_104 (by decide) ?_
                  refine go_irem (pc := 106) dX3_house_106 (by decide) ?_
                  refine go_oB fun n3 e_n3 => ?_
                  have t_n3 := t_r3 n3 e_n3
                  subst e_n3
                  refine go_iast (pc := 107) t_n3 dX3_house_107 fun u4 => ?_
                  refine go_aload_n (pc := 108) (j := 0) (i := 0) dX3_house_108 rfl rfl ?_
                  refine go_getR (pc := 109) (n := self) (ci := 3) (k := 23) (t := 13) fa_X3_72_3 t_self rfl dX3_house_109 fun r4 t_r4 => ?_
                  refine go_iload_n (pc := 112) (j := 3) (i := 3) dX3_house_112 rfl rfl ?_
                  refine go_iload_n (pc := 113) (j := 2) (i := 2) dX3_house_113 rfl rfl ?_
                  refine go_bipush (pc := 114) (v := 10) dX3_house_114 (by decide) ?_
                  refine go_idiv (pc := 116) dX3_house_116 (by decide) ?_
                  refine go_bipush (pc := 117) (v := 10) dX3_house_117 (by decide) ?_
                  refine go_irem (pc := 119) dX3_house_119 (by decide) ?_
                  refine go_oB fun n4 e_n4 => ?_
                  have t_n4 := t_r4 n4 e_n4
                  subst e_n4
                  refine go_iast (pc := 120) t_n4 dX3_house_120 fun u5 => ?_
                  refine go_aload_n (pc := 121) (j := 0) (i := 0) dX3_house_121 rfl rfl ?_
                  refine go_getR (pc := 122) (n := self) (ci := 3) (k := 24) (t := 13) fa_X3_75_3 t_self rfl dX3_house_122 fun r5 t_r5 => ?_
                  refine go_iload_n (pc := 125) (j := 3) (i := 3) dX3_house_125 rfl rfl ?_
                  refine go_iload_n (pc := 126) (j := 2) (i := 2) dX3_house_126 rfl rfl ?_
                  refine go_bipush (pc := 127) (v := 10) dX3_house_127 (by decide) ?_
                  refine go_irem (pc := 129) dX3_house_129 (by decide) ?_
                  refine go_oB fun n5 e_n5 => ?_
                  have t_n5 := t_r5 n5 e_n5
                  subst e_n5
                  refine go_iast (pc := 130) t_n5 dX3_house_130 fun u6 => ?_
                  refine go_aload_n (pc := 131) (j := 0) (i := 0) dX3_house_131 rfl rfl ?_
                  refine go_getR (pc := 132) (n := self) (ci := 3) (k := 26) (t := 13) fa_X3_81_3 t_self rfl dX3_house_132 fun r6 t_r6 => ?_
                  refine go_iload_n (pc := 135) (j := 3) (i := 3) dX3_house_135 rfl rfl ?_
                  refine go_bipush (pc := 136) (v := 10) dX3_house_136 (by decide) ?_
                  refine go_oB fun n6 e_n6 => ?_
                  have t_n6 := t_r6 n6 e_n6
                  subst e_n6
                  refine go_iast (pc := 138) t_n6 dX3_house_138 fun u7 => ?_
                  refine go_aload_n (pc := 139) (j := 0) (i := 0) dX3_house_139 rfl rfl ?_
                  refine go_dupA (pc := 140) dX3_house_140 ?_
                  refine go_getI (pc := 141) (n := self) (ci := 3) (k := 2) fa_X3_278_3 t_self rfl dX3_house_141 ?_
                  refine go_iconst (pc := 144) (v := 1) dX3_house_144 (by decide) ?_
                  refine go_iadd (pc := 145) dX3_house_145 ?_
                  refine go_putI (pc := 146) (n := self) (ci := 3) (k := 2) (v := ((mI u7 self 2) + 1)) pa_X3_278_3 (fun h => by cases h) t_self rfl zKeep_int dX3_house_146 fun u8 => ?_
                  refine go_iload_n (pc := 149) (j := 3) (i := 3) dX3_house_149 rfl rfl ?_
                  exact go_ireturn (pc := 150) rfl dX3_house_150

def f_X3_isHouse (self : Nat) (p0 : Int32) (u : zM) : Option (Int32 × zM) := bd (f_X3_in (Int32.toInt64 p0) 0 (Int32.toInt64 ((mI u self 2) - 1)) u) fun v1 u1 => gb v1 (some (v1, u1))
set_option maxHeartbeats 4000000 in
theorem ct_X3_isHouse (self : Nat) (p0 : Int32) (t_self : kd self = 3) : zMet yX3_isHouse cX3_isHouse 2 (some .boolean) 2 25 rvI (obT) [.ref self, .int p0] (f_X3_isHouse self p0) := by
  refine zMet_of (A := [(0, .ref self), (1, .int p0)]) (B := []) (ini := false) RX3 rfl (by decide +kernel) (fun h => by cases h) (by simp [lg_sl, Value.category]) (by simp [lv_args, Value.category]) rfl (by simp [lv_args, Value.category]) fun u => ?_
  unfold f_X3_isHouse
  refine go_iload_n (pc := 0) (j := 1) (i := 1) dX3_isHouse_0 rfl rfl ?_
  refine go_i2l (pc := 1) dX3_isHouse_1 ?_
  refine go_lconst (pc := 2) (v := 0) dX3_isHouse_2 (by decide) ?_
  refine go_aload_n (pc := 3) (j := 0) (i := 0) dX3_isHouse_3 rfl rfl ?_
  refine go_getI (pc := 4) (n := self) (ci := 3) (k := 2) fa_X3_278_3 t_self rfl dX3_isHouse_4 ?_
  refine go_iconst (pc := 7) (v := 1) dX3_isHouse_7 (by decide) ?_
  refine go_isub (pc := 8) dX3_isHouse_8 ?_
  refine go_i2l (pc := 9) dX3_isHouse_9 ?_
  refine go_callSI (pc := 10) (ct_X3_in (Int32.toInt64 p0) 0 (Int32.toInt64 ((mI u self 2) - 1))) lk_X3_274 rfl ⟨by decide, by decide⟩ (Nat.le_of_ble_eq_true rfl) dX3_isHouse_10 rfl fun v1 u1 => ?_
  exact go_zreturn (pc := 13) rfl dX3_isHouse_13

def f_X3_hasLoom (self : Nat) (p0 : Int32) (u : zM) : Option (Int32 × zM) := lt (mR u self 32) fun r1 => oB r1 fun n1 => ix p0 (mN u n1) (if (mI u n1 (xN p0)) ≤ 0 then (gb 0 (some (0, u))) else (gb 1 (some (1, u))))
set_option maxHeartbeats 4000000 in
theorem ct_X3_hasLoom (self : Nat) (p0 : Int32) (t_self : kd self = 3) : zMet yX3_hasLoom cX3_hasLoom 2 (some .boolean) 1 0 rvI (obT) [.ref self, .int p0] (f_X3_hasLoom self p0) := by
  refine zMet_of (A := [(0, .ref self), (1, .int p0)]) (B := []) (ini := false) RX3 rfl (by decide +kernel) (fun h => by cases h) (by simp [lg_sl, Value.category]) (by simp [lv_args, Value.category]) rfl (by simp [lv_args, Value.category]) fun u => ?_
  unfold f_X3_hasLoom
  refine go_aload_n (pc := 0) (j := 0) (i := 0) dX3_hasLoom_0 rfl rfl ?_
  refine go_getR (pc := 1) (n := self) (ci := 3) (k := 32) (t := 13) fa_X3_99_3 t_self rfl dX3_hasLoom_1 fun r1 t_r1 => ?_
  refine go_iload_n (pc := 4) (j := 1) (i := 1) dX3_hasLoom_4 rfl rfl ?_
  refine go_oB fun n1 e_n1 => ?_
  have t_n1 := t_r1 n1 e_n1
  subst e_n1
  refine go_iald (pc := 5) t_n1 dX3_hasLoom_5 ?_
  refine go_if_le (pc := 6) (tgt := 13) dX3_hasLoom_6 (by decide) (fun h1 => ?_) (fun h1 => ?_)
  · refine go_iconst (pc := 13) (v := 0) dX3_hasLoom_13 (by decide) ?_
    exact go_zreturn (pc := 14) rfl dX3_hasLoom_14
  · refine go_iconst (pc := 9) (v := 1) dX3_hasLoom_9 (by decide) ?_
    refine go_goto (pc := 10) (tgt := 14) dX3_hasLoom_10 (by decide) ?_
    exact go_zreturn (pc := 14) rfl dX3_hasLoom_14

def f_X3_loom (self : Nat) (p0 : Int32) (p1 : Int32) (p2 : Int32) (u : zM) : Option (Int32 × zM) := bd (f_X3_isHouse self p0 u) fun v1 u1 => if v1 = 0 then (gb 0 (some (0, u1))) else (bd (f_X3_hasLoom self p0 u1) fun v2 u2 => if v2 = 0 then (if p1 < 0 then (gb 0 (some (0, u2))) else (bd (f_X3_in (Int32.toInt64 (p1 / 100)) 4 60 u2) fun v3 u3 => if v3 = 0 then (gb 0 (some (0, u3))) else (bd (f_X3_in (Int32.toInt64 (p1 - p1 / 100 * 100)) (Int32.toInt64 (p1 / 100)) 60 u3) fun v4 u4 => if v4 = 0 then (gb 0 (some (0, u4))) else (bd (f_X3_in (Int32.toInt64 p2) 1 40 u4) fun v5 u5 => if v5 = 0 then (gb 0 (some (0, u5))) else (lt (mR u5 self 30) fun r1 => oB r1 fun n1 => ix p0 (mN u5 n1) (lt (sI u5 n1 (xN p0) (p1 / 100)) fun u6 => lt (mR u6 self 31) fun r2 => oB r2 fun n2 => ix p0 (mN u6 n2) (lt (sI u6 n2 (xN p0) (p1 - p1 / 100 * 100)) fun u7 => lt (mR u7 self 32) fun r3 => oB r3 fun n3 => ix p0 (mN u7 n3) (lt (sI u7 n3 (xN p0) p2) fun u8 => gb 1 (some (1, u8)))))))))) else (gb 0 (some (0, u2))))
set_option maxHeartbeats 4000000 in
theorem ct_X3_loom (self : Nat) (p0 : Int32) (p1 : Int32) (p2 : Int32) (t_self : kd self = 3) : zMet yX3_loom cX3_loom 4 (some .boolean) 3 46 rvI (obT) [.ref self, .int p0, .int p1, .int p2] (f_X3_loom self p0 p1 p2) := by
  refine zMet_of (A := [(0, .ref self), (1, .int p0), (2, .int p1), (3, .int p2)]) (B := []) (ini := false) RX3 rfl (by decide +kernel) (fun h => by cases h) (by simp [lg_sl, Value.category]) (by simp [lv_args, Value.category]) rfl (by simp [lv_args, Value.category]) fun u => ?_
  unfold f_X3_loom
  refine go_aload_n (pc := 0) (j := 0) (i := 0) dX3_loom_0 rfl rfl ?_
  refine go_iload_n (pc := 1) (j := 1) (i := 1) dX3_loom_1 rfl rfl ?_
  refine go_callVI (pc := 2) (ci := 3) (ct_X3_isHouse self p0 t_self) lk_X3_297 rfl rfl rfl (by decide) t_self ⟨by decide, by decide⟩ (Nat.le_of_ble_eq_true rfl) dX3_loom_2 rfl fun v1 u1 => ?_
  refine go_if_eq (pc := 5) (tgt := 68) dX3_loom_5 (by decide) (fun h1 => ?_) (fun h1 => ?_)
  · refine go_iconst (pc := 68) (v := 0) dX3_loom_68 (by decide) ?_
    exact go_zreturn (pc := 69) rfl dX3_loom_69
  · refine go_aload_n (pc := 8) (j := 0) (i := 0) dX3_loom_8 rfl rfl ?_
    refine go_iload_n (pc := 9) (j := 1) (i := 1) dX3_loom_9 rfl rfl ?_
    refine go_callVI (pc := 10) (ci := 3) (ct_X3_hasLoom self p0 t_self) lk_X3_300 rfl rfl rfl (by decide) t_self ⟨by decide, by decide⟩ (Nat.le_of_ble_eq_true rfl) dX3_loom_10 rfl fun v2 u2 => ?_
    refine go_if_ne (pc := 13) (tgt := 68) dX3_loom_13 (by decide) (fun h2 => ?_) (fun h2 => ?_)
    · refine go_iload_n (pc := 16) (j := 2) (i := 2) dX3_loom_16 rfl rfl ?_
      refine go_if_lt (pc := 17) (tgt := 68) dX3_loom_17 (by decide) (fun h3 => ?_) (fun h3 => ?_)
      · refine go_iconst (pc := 68) (v := 0) dX3_loom_68 (by decide) ?_
        exact go_zreturn (pc := 69) rfl dX3_loom_69
      · refine go_iload_n (pc := 20) (j := 2) (i := 2) dX3_loom_20 rfl rfl ?_
        refine go_bipush (pc := 21) (v := 100) dX3_loom_21 (by decide) ?_
        refine go_idiv (pc := 23) dX3_loom_23 (by decide) ?_
        refine go_i2l (pc := 24) dX3_loom_24 ?_
        refine go_ldc2 (pc := 25) (v := 4) dX3_loom_25 q1583 ?_
        refine go_ldc2 (pc := 28) (v := 60) dX3_loom_28 q1584 ?_
        refine go_callSI (pc := 31) (ct_X3_in (Int32.toInt64 (p1 / 100)) 4 60) lk_X3_274 rfl ⟨by decide, by decide⟩ (Nat.le_of_ble_eq_true rfl) dX3_loom_31 rfl fun v3 u3 => ?_
        refine go_if_eq (pc := 34) (tgt := 68) dX3_loom_34 (by decide) (fun h4 => ?_) (fun h4 => ?_)
        · refine go_iconst (pc := 68) (v := 0) dX3_loom_68 (by decide) ?_
          exact go_zreturn (pc := 69) rfl dX3_loom_69
        · refine go_iload_n (pc := 37) (j := 2) (i := 2) dX3_loom_37 rfl rfl ?_
          refine go_bipush (pc := 38) (v := 100) dX3_loom_38 (by decide) ?_
          refine go_irem (pc := 40) dX3_loom_40 (by decide) ?_
          refine go_i2l (pc := 41) dX3_loom_41 ?_
          refine go_iload_n (pc := 42) (j := 2) (i := 2) dX3_loom_42 rfl rfl ?_
          refine go_bipush (pc := 43) (v := 100) dX3_loom_43 (by decide) ?_
          refine go_idiv (pc := 45) dX3_loom_45 (by decide) ?_
          refine go_i2l (pc := 46) dX3_loom_46 ?_
          refine go_ldc2 (pc := 47) (v := 60) dX3_loom_47 q1584 ?_
          refine go_callSI (pc := 50) (ct_X3_in (Int32.toInt64 (p1 - p1 / 100 * 100)) (Int32.toInt64 (p1 / 100)) 60) lk_X3_274 rfl ⟨by decide, by decide⟩ (Nat.le_of_ble_eq_true rfl) dX3_loom_50 rfl fun v4 u4 => ?_
          refine go_if_eq (pc := 53) (tgt := 68) dX3_loom_53 (by decide) (fun h5 => ?_) (fun h5 => ?_)
          · refine go_iconst (pc := 68) (v := 0) dX3_loom_68 (by decide) ?_
            exact go_zreturn (pc := 69) rfl dX3_loom_69
          · refine go_iload_n (pc := 56) (j := 3) (i := 3) dX3_loom_56 rfl rfl ?_
            refine go_i2l (pc := 57) dX3_loom_57 ?_
            refine go_lconst (pc := 58) (v := 1) dX3_loom_58 (by decide) ?_
            refine go_ldc2 (pc := 59) (v := 40) dX3_loom_59 q1585 ?_
            refine go_callSI (pc := 62) (ct_X3_in (Int32.toInt64 p2) 1 40) lk_X3_274 rfl ⟨by decide, by decide⟩ (Nat.le_of_ble_eq_true rfl) dX3_loom_62 rfl fun v5 u5 => ?_
            refine go_if_ne (pc := 65) (tgt := 70) dX3_loom_65 (by decide) (fun h6 => ?_) (fun h6 => ?_)
            · refine go_iconst (pc := 68) (v := 0) dX3_loom_68 (by decide) ?_
              exact go_zreturn (pc := 69) rfl dX3_loom_69
            · refine go_aload_n (pc := 70) (j := 0) (i := 0) dX3_loom_70 rfl rfl ?_
              refine go_getR (pc := 71) (n := self) (ci := 3) (k := 30) (t := 13) fa_X3_93_3 t_self rfl dX3_loom_71 fun r1 t_r1 => ?_
              refine go_iload_n (pc := 74) (j := 1) (i := 1) dX3_loom_74 rfl rfl ?_
              refine go_iload_n (pc := 75) (j := 2) (i := 2) dX3_loom_75 rfl rfl ?_
              refine go_bipush (pc := 76) (v := 100) dX3_loom_76 (by decide) ?_
              refine go_idiv (pc := 78) dX3_loom_78 (by decide) ?_
              refine go_oB fun n1 e_n1 => ?_
              have t_n1 := t_r1 n1 e_n1
              subst e_n1
              refine go_iast (pc := 79) t_n1 dX3_loom_79 fun u6 => ?_
              refine go_aload_n (pc := 80) (j := 0) (i := 0) dX3_loom_80 rfl rfl ?_
              refine go_getR (pc := 81) (n := self) (ci := 3) (k := 31) (t := 13) fa_X3_96_3 t_self rfl dX3_loom_81 fun r2 t_r2 => ?_
              refine go_iload_n (pc := 84) (j := 1) (i := 1) dX3_loom_84 rfl rfl ?_
              refine go_iload_n (pc := 85) (j := 2) (i := 2) dX3_loom_85 rfl rfl ?_
              refine go_bipush (pc := 86) (v := 100) dX3_loom_86 (by decide) ?_
              refine go_irem (pc := 88) dX3_loom_88 (by decide) ?_
              refine go_oB fun n2 e_n2 => ?_
              have t_n2 := t_r2 n2 e_n2
              subst e_n2
              refine go_iast (pc := 89) t_n2 dX3_loom_89 fun u7 => ?_
              refine go_aload_n (pc := 90) (j := 0) (i := 0) dX3_loom_90 rfl rfl ?_
              refine go_getR (pc := 91) (n := self) (ci := 3) (k := 32) (t := 13) fa_X3_99_3 t_self rfl dX3_loom_91 fun r3 t_r3 => ?_
              refine go_iload_n (pc := 94) (j := 1) (i := 1) dX3_loom_94 rfl rfl ?_
              refine go_iload_n (pc := 95) (j := 3) (i := 3) dX3_loom_95 rfl rfl ?_
              refine go_oB fun n3 e_n3 => ?_
              have t_n3 := t_r3 n3 e_n3
              subst e_n3
              refine go_iast (pc := 96) t_n3 dX3_loom_96 fun u8 => ?_
              refine go_iconst (pc := 97) (v := 1) dX3_loom_97 (by decide) ?_
              exact go_zreturn (pc := 98) rfl dX3_loom_98
    · refine go_iconst (pc := 68) (v := 0) dX3_loom_68 (by decide) ?_
      exact go_zreturn (pc := 69) rfl dX3_loom_69

def f_X3_aim (self : Nat) (p0 : Int32) (p1 : Int32) (u : zM) : Option (Int32 × zM) := bd (f_X3_isHouse self p0 u) fun v1 u1 => if v1 = 0 then (gb 0 (some (0, u1))) else (bd (f_X3_in (Int32.toInt64 p1) 4 60 u1) fun v2 u2 => if v2 = 0 then (gb 0 (some (0, u2))) else (lt (mR u2 self 26) fun r1 => oB r1 fun n1 => ix p0 (mN u2 n1) (lt (sI u2 n1 (xN p0) p1) fun u3 => gb 1 (some (1, u3)))))
set_option maxHeartbeats 4000000 in
theorem ct_X3_aim (self : Nat) (p0 : Int32) (p1 : Int32) (t_self : kd self = 3) : zMet yX3_aim cX3_aim 3 (some .boolean) 3 46 rvI (obT) [.ref self, .int p0, .int p1] (f_X3_aim self p0 p1) := by
  refine zMet_of (A := [(0, .ref self), (1, .int p0), (2, .int p1)]) (B := []) (ini := false) RX3 rfl (by decide +kernel) (fun h => by cases h) (by simp [lg_sl, Value.category]) (by simp [lv_args, Value.category]) rfl (by simp [lv_args, Value.category]) fun u => ?_
  unfold f_X3_aim
  refine go_aload_n (pc := 0) (j := 0) (i := 0) dX3_aim_0 rfl rfl ?_
  refine go_iload_n (pc := 1) (j := 1) (i := 1) dX3_aim_1 rfl rfl ?_
  refine go_callVI (pc := 2) (ci := 3) (ct_X3_isHouse self p0 t_self) lk_X3_297 rfl rfl rfl (by decide) t_self ⟨by decide, by decide⟩ (Nat.le_of_ble_eq_true rfl) dX3_aim_2 rfl fun v1 u1 => ?_
  refine go_if_eq (pc := 5) (tgt := 22) dX3_aim_5 (by decide) (fun h1 => ?_) (fun h1 => ?_)
  · refine go_iconst (pc := 22) (v := 0) dX3_aim_22 (by decide) ?_
    exact go_zreturn (pc := 23) rfl dX3_aim_23
  · refine go_iload_n (pc := 8) (j := 2) (i := 2) dX3_aim_8 rfl rfl ?_
    refine go_i2l (pc := 9) dX3_aim_9 ?_
    refine go_ldc2 (pc := 10) (v := 4) dX3_aim_10 q1583 ?_
    refine go_ldc2 (pc := 13) (v := 60) dX3_aim_13 q1584 ?_
    refine go_callSI (pc := 16) (ct_X3_in (Int32.toInt64 p1) 4 60) lk_X3_274 rfl ⟨by decide, by decide⟩ (Nat.le_of_ble_eq_true rfl) dX3_aim_16 rfl fun v2 u2 => ?_
    refine go_if_ne (pc := 19) (tgt := 24) dX3_aim_19 (by decide) (fun h2 => ?_) (fun h2 => ?_)
    · refine go_iconst (pc := 22) (v := 0) dX3_aim_22 (by decide) ?_
      exact go_zreturn (pc := 23) rfl dX3_aim_23
    · refine go_aload_n (pc := 24) (j := 0) (i := 0) dX3_aim_24 rfl rfl ?_
      refine go_getR (pc := 25) (n := self) (ci := 3) (k := 26) (t := 13) fa_X3_81_3 t_self rfl dX3_aim_25 fun r1 t_r1 => ?_
      refine go_iload_n (pc := 28) (j := 1) (i := 1) dX3_aim_28 rfl rfl ?_
      refine go_iload_n (pc := 29) (j := 2) (i := 2) dX3_aim_29 rfl rfl ?_
      refine go_oB fun n1 e_n1 => ?_
      have t_n1 := t_r1 n1 e_n1
      subst e_n1
      refine go_iast (pc := 30) t_n1 dX3_aim_30 fun u3 => ?_
      refine go_iconst (pc := 31) (v := 1) dX3_aim_31 (by decide) ?_
      exact go_zreturn (pc := 32) rfl dX3_aim_32

def f_X3_coins (self : Nat) (p0 : Int32) (p1 : Int32) (u : zM) : Option (Int32 × zM) := bd (f_X3_isHouse self p0 u) fun v1 u1 => if v1 = 0 then (some ((-2147483648), u1)) else (bd (f_X3_in (Int32.toInt64 p1) (-9999) 9999 u1) fun v2 u2 => if v2 = 0 then (some ((-2147483648), u2)) else (lt (mR u2 self 25) fun r1 => oB r1 fun n1 => ix p0 (mN u2 n1) (ix p0 (mN u2 n1) (lt (sI u2 n1 (xN p0) ((mI u2 n1 (xN p0)) + p1)) fun u3 => lt (mR u3 self 25) fun r2 => oB r2 fun n2 => ix p0 (mN u3 n2) (some ((mI u3 n2 (xN p0)), u3))))))
set_option maxHeartbeats 4000000 in
theorem ct_X3_coins (self : Nat) (p0 : Int32) (p1 : Int32) (t_self : kd self = 3) : zMet yX3_coins cX3_coins 3 (some .int) 3 46 rvI (obT) [.ref self, .int p0, .int p1] (f_X3_coins self p0 p1) := by
  refine zMet_of (A := [(0, .ref self), (1, .int p0), (2, .int p1)]) (B := []) (ini := false) RX3 rfl (by decide +kernel) (fun h => by cases h) (by simp [lg_sl, Value.category]) (by simp [lv_args, Value.category]) rfl (by simp [lv_args, Value.category]) fun u => ?_
  unfold f_X3_coins
  refine go_aload_n (pc := 0) (j := 0) (i := 0) dX3_coins_0 rfl rfl ?_
  refine go_iload_n (pc := 1) (j := 1) (i := 1) dX3_coins_1 rfl rfl ?_
  refine go_callVI (pc := 2) (ci := 3) (ct_X3_isHouse self p0 t_self) lk_X3_297 rfl rfl rfl (by decide) t_self ⟨by decide, by decide⟩ (Nat.le_of_ble_eq_true rfl) dX3_coins_2 rfl fun v1 u1 => ?_
  refine go_if_eq (pc := 5) (tgt := 22) dX3_coins_5 (by decide) (fun h1 => ?_) (fun h1 => ?_)
  · refine go_ldcw (pc := 22) (v := (-2147483648)) dX3_coins_22 q1595 ?_
    exact go_ireturn (pc := 25) rfl dX3_coins_25
  · refine go_iload_n (pc := 8) (j := 2) (i := 2) dX3_coins_8 rfl rfl ?_
    refine go_i2l (pc := 9) dX3_coins_9 ?_
    refine go_ldc2 (pc := 10) (v := (-9999)) dX3_coins_10 q1594 ?_
    refine go_ldc2 (pc := 13) (v := 9999) dX3_coins_13 q1550 ?_
    refine go_callSI (pc := 16) (ct_X3_in (Int32.toInt64 p1) (-9999) 9999) lk_X3_274 rfl ⟨by decide, by decide⟩ (Nat.le_of_ble_eq_true rfl) dX3_coins_16 rfl fun v2 u2 => ?_
    refine go_if_ne (pc := 19) (tgt := 26) dX3_coins_19 (by decide) (fun h2 => ?_) (fun h2 => ?_)
    · refine go_ldcw (pc := 22) (v := (-2147483648)) dX3_coins_22 q1595 ?_
      exact go_ireturn (pc := 25) rfl dX3_coins_25
    · refine go_aload_n (pc := 26) (j := 0) (i := 0) dX3_coins_26 rfl rfl ?_
      refine go_getR (pc := 27) (n := self) (ci := 3) (k := 25) (t := 13) fa_X3_78_3 t_self rfl dX3_coins_27 fun r1 t_r1 => ?_
      refine go_iload_n (pc := 30) (j := 1) (i := 1) dX3_coins_30 rfl rfl ?_
      refine go_oB fun n1 e_n1 => ?_
      have t_n1 := t_r1 n1 e_n1
      subst e_n1
      refine go_dup2 (pc := 31) dX3_coins_31 ?_
      refine go_iald (pc := 32) t_n1 dX3_coins_32 ?_
      refine go_iload_n (pc := 33) (j := 2) (i := 2) dX3_coins_33 rfl rfl ?_
      refine go_iadd (pc := 34) dX3_coins_34 ?_
      refine go_iast (pc := 35) t_n1 dX3_coins_35 fun u3 => ?_
      refine go_aload_n (pc := 36) (j := 0) (i := 0) dX3_coins_36 rfl rfl ?_
      refine go_getR (pc := 37) (n := self) (ci := 3) (k := 25) (t := 13) fa_X3_78_3 t_self rfl dX3_coins_37 fun r2 t_r2 => ?_
      refine go_iload_n (pc := 40) (j := 1) (i := 1) dX3_coins_40 rfl rfl ?_
      refine go_oB fun n2 e_n2 => ?_
      have t_n2 := t_r2 n2 e_n2
      subst e_n2
      refine go_iald (pc := 41) t_n2 dX3_coins_41 ?_
      exact go_ireturn (pc := 42) rfl dX3_coins_42

def f_X3_cotton (self : Nat) (p0 : Int32) (p1 : Int32) (u : zM) : Option (Int32 × zM) := bd (f_X3_isVillage self p0 u) fun v1 u1 => if v1 = 0 then (some ((-1), u1)) else (bd (f_X3_in (Int32.toInt64 p1) 1 999 u1) fun v2 u2 => if v2 = 0 then (some ((-1), u2)) else (lt (mR u2 self 7) fun r1 => oB r1 fun n1 => ix p0 (mN u2 n1) (if ((mI u2 n1 (xN p0)) + p1) ≤ 9999 then (lt (mR u2 self 7) fun r2 => oB r2 fun n2 => ix p0 (mN u2 n2) (ix p0 (mN u2 n2) (lt (sI u2 n2 (xN p0) ((mI u2 n2 (xN p0)) + p1)) fun u3 => lt (mR u3 self 7) fun r3 => oB r3 fun n3 => ix p0 (mN u3 n3) (some ((mI u3 n3 (xN p0)), u3))))) else (some ((-1), u2)))))
set_option maxHeartbeats 4000000 in
theorem ct_X3_cotton (self : Nat) (p0 : Int32) (p1 : Int32) (t_self : kd self = 3) : zMet yX3_cotton cX3_cotton 3 (some .int) 3 46 rvI (obT) [.ref self, .int p0, .int p1] (f_X3_cotton self p0 p1) := by
  refine zMet_of (A := [(0, .ref self), (1, .int p0), (2, .int p1)]) (B := []) (ini := false) RX3 rfl (by decide +kernel) (fun h => by cases h) (by simp [lg_sl, Value.category]) (by simp [lv_args, Value.category]) rfl (by simp [lv_args, Value.category]) fun u => ?_
  unfold f_X3_cotton
  refine go_aload_n (pc := 0) (j := 0) (i := 0) dX3_cotton_0 rfl rfl ?_
  refine go_iload_n (pc := 1) (j := 1) (i := 1) dX3_cotton_1 rfl rfl ?_
  refine go_callVI (pc := 2) (ci := 3) (ct_X3_isVillage self p0 t_self) lk_X3_289 rfl rfl rfl (by decide) t_self ⟨by decide, by decide⟩ (Nat.le_of_ble_eq_true rfl) dX3_cotton_2 rfl fun v1 u1 => ?_
  refine go_if_eq (pc := 5) (tgt := 34) dX3_cotton_5 (by decide) (fun h1 => ?_) (fun h1 => ?_)
  · refine go_iconst (pc := 34) (v := (-1)) dX3_cotton_34 (by decide) ?_
    exact go_ireturn (pc := 35) rfl dX3_cotton_35
  · refine go_iload_n (pc := 8) (j := 2) (i := 2) dX3_cotton_8 rfl rfl ?_
    refine go_i2l (pc := 9) dX3_cotton_9 ?_
    refine go_lconst (pc := 10) (v := 1) dX3_cotton_10 (by decide) ?_
    refine go_ldc2 (pc := 11) (v := 999) dX3_cotton_11 q1600 ?_
    refine go_callSI (pc := 14) (ct_X3_in (Int32.toInt64 p1) 1 999) lk_X3_274 rfl ⟨by decide, by decide⟩ (Nat.le_of_ble_eq_true rfl) dX3_cotton_14 rfl fun v2 u2 => ?_
    refine go_if_eq (pc := 17) (tgt := 34) dX3_cotton_17 (by decide) (fun h2 => ?_) (fun h2 => ?_)
    · refine go_iconst (pc := 34) (v := (-1)) dX3_cotton_34 (by decide) ?_
      exact go_ireturn (pc := 35) rfl dX3_cotton_35
    · refine go_aload_n (pc := 20) (j := 0) (i := 0) dX3_cotton_20 rfl rfl ?_
      refine go_getR (pc := 21) (n := self) (ci := 3) (k := 7) (t := 13) fa_X3_24_3 t_self rfl dX3_cotton_21 fun r1 t_r1 => ?_
      refine go_iload_n (pc := 24) (j := 1) (i := 1) dX3_cotton_24 rfl rfl ?_
      refine go_oB fun n1 e_n1 => ?_
      have t_n1 := t_r1 n1 e_n1
      subst e_n1
      refine go_iald (pc := 25) t_n1 dX3_cotton_25 ?_
      refine go_iload_n (pc := 26) (j := 2) (i := 2) dX3_cotton_26 rfl rfl ?_
      refine go_iadd (pc := 27) dX3_cotton_27 ?_
      refine go_sipush (pc := 28) (v := 9999) dX3_cotton_28 (by decide) ?_
      refine go_icmp_le (pc := 31) (tgt := 36) dX3_cotton_31 (by decide) (fun h3 => ?_) (fun h3 => ?_)
      · refine go_aload_n (pc := 36) (j := 0) (i := 0) dX3_cotton_36 rfl rfl ?_
        refine go_getR (pc := 37) (n := self) (ci := 3) (k := 7) (t := 13) fa_X3_24_3 t_self rfl dX3_cotton_37 fun r2 t_r2 => ?_
        refine go_iload_n (pc := 40) (j := 1) (i := 1) dX3_cotton_40 rfl rfl ?_
        refine go_oB fun n2 e_n2 => ?_
        have t_n2 := t_r2 n2 e_n2
        subst e_n2
        refine go_dup2 (pc := 41) dX3_cotton_41 ?_
        refine go_iald (pc := 42) t_n2 dX3_cotton_42 ?_
        refine go_iload_n (pc := 43) (j := 2) (i := 2) dX3_cotton_43 rfl rfl ?_
        refine go_iadd (pc := 44) dX3_cotton_44 ?_
        refine go_iast (pc := 45) t_n2 dX3_cotton_45 fun u3 => ?_
        refine go_aload_n (pc := 46) (j := 0) (i := 0) dX3_cotton_46 rfl rfl ?_
        refine go_getR (pc := 47) (n := self) (ci := 3) (k := 7) (t := 13) fa_X3_24_3 t_self rfl dX3_cotton_47 fun r3 t_r3 => ?_
        refine go_iload_n (pc := 50) (j := 1) (i := 1) dX3_cotton_50 rfl rfl ?_
        refine go_oB fun n3 e_n3 => ?_
        have t_n3 := t_r3 n3 e_n3
        subst e_n3
        refine go_iald (pc := 51) t_n3 dX3_cotton_51 ?_
        exact go_ireturn (pc := 52) rfl dX3_cotton_52
      · refine go_iconst (pc := 34) (v := (-1)) dX3_cotton_34 (by decide) ?_
        exact go_ireturn (pc := 35) rfl dX3_cotton_35

def f_X3_feeds_L2 (x0 : Nat) (x1 : Int32) : Nat → Int32 → zM → Option (Unit × zM)
  | 0, _, _ => none
  | n + 1, x2, u => if x2 < 0 then (some ((), u)) else (lt (mR u x0 40) fun r1 => oB r1 fun n1 => ix (mI u x0 41) (mN u n1) (lt (sI u n1 (xN (mI u x0 41)) (Int32.toInt8 ((Int32.toInt8 ((Int32.toUInt32 x1 >>> (Int32.toUInt32 (8 * x2) &&& Int32.toUInt32 31)).toInt32)).toInt32)).toInt32) fun u1 => lt (sI u1 x0 41 ((mI u1 x0 41) + 1)) fun u2 => f_X3_feeds_L2 x0 x1 n (x2 + (-1)) u2))
section
variable {c0 s0 : Nat} {tbv : List ExceptionTableEntry}
set_option maxHeartbeats 4000000 in
theorem g_X3_feeds_L2 (x0 : Nat) (x1 : Int32) (t_x0 : kd x0 = 3) : ∀ (n : Nat) (x2 : Int32) (u : zM), Go RX3 cX3_feeds 3 (none) false 1 0 [] (obT) (zQ rvV) c0 s0 2 [(0, .ref x0), (1, .int x1), (2, .int x2)] [] [] u (f_X3_feeds_L2 x0 x1 n x2 u) := by
  intro n
  induction n with
  | zero => intros; exact go_none
  | succ n ih =>
    intro x2 u
    unfold f_X3_feeds_L2
    refine go_iload_n (pc := 2) (j := 2) (i := 2) dX3_feeds_2 rfl rfl ?_
    refine go_if_lt (pc := 3) (tgt := 38) dX3_feeds_3 (by decide) (fun h1 => ?_) (fun h1 => ?_)
    · exact go_vreturn (pc := 38) rfl dX3_feeds_38
    · refine go_aload_n (pc := 6) (j := 0) (i := 0) dX3_feeds_6 rfl rfl ?_
      refine go_getR (pc := 7) (n := x0) (ci := 3) (k := 40) (t := 14) fa_X3_121_3 t_x0 rfl dX3_feeds_7 fun r1 t_r1 => ?_
      refine go_aload_n (pc := 10) (j := 0) (i := 0) dX3_feeds_10 rfl rfl ?_
      refine go_getI (pc := 11) (n := x0) (ci := 3) (k := 41) fa_X3_314_3 t_x0 rfl dX3_feeds_11 ?_
      refine go_iload_n (pc := 14) (j := 1) (i := 1) dX3_feeds_14 rfl rfl ?_
      refine go_bipush (pc := 15) (v := 8) dX3_feeds_15 (by decide) ?_
      refine go_iload_n (pc := 17) (j := 2) (i := 2) dX3_feeds_17 rfl rfl ?_
      refine go_imul (pc := 18) dX3_feeds_18 ?_
      refine go_iushr (pc := 19) dX3_feeds_19 ?_
      refine go_i2b (pc := 20) dX3_feeds_20 ?_
      refine go_oB fun n1 e_n1 => ?_
      have t_n1 := t_r1 n1 e_n1
      subst e_n1
      refine go_bast (pc := 21) t_n1 dX3_feeds_21 fun u1 => ?_
      refine go_aload_n (pc := 22) (j := 0) (i := 0) dX3_feeds_22 rfl rfl ?_
      refine go_dupA (pc := 23) dX3_feeds_23 ?_
      refine go_getI (pc := 24) (n := x0) (ci := 3) (k := 41) fa_X3_314_3 t_x0 rfl dX3_feeds_24 ?_
      refine go_iconst (pc := 27) (v := 1) dX3_feeds_27 (by decide) ?_
      refine go_iadd (pc := 28) dX3_feeds_28 ?_
      refine go_putI (pc := 29) (n := x0) (ci := 3) (k := 41) (v := ((mI u1 x0 41) + 1)) pa_X3_314_3 (fun h => by cases h) t_x0 rfl zKeep_int dX3_feeds_29 fun u2 => ?_
      refine go_iinc (pc := 32) (i := 2) (w := (-1)) (A' := [(0, .ref x0), (1, .int x1), (2, .int (x2 + (-1)))]) rfl (by decide) (by decide) rfl rfl rfl dX3_feeds_32 ?_
      refine go_goto (pc := 35) (tgt := 2) dX3_feeds_35 (by decide) ?_
      exact go_weak (A' := [(0, .ref x0), (1, .int x1), (2, .int (x2 + (-1)))]) (B' := []) ⟨rfl, rfl, rfl, trivial⟩ rfl (fun q h => by cases h) (ih (x2 + (-1)) u2)
end
def f_X3_feeds (self : Nat) (p0 : Int32) (u : zM) : Option (Unit × zM) := f_X3_feeds_L2 self p0 zFu 3 u
set_option maxHeartbeats 4000000 in
theorem ct_X3_feeds (self : Nat) (p0 : Int32) (t_self : kd self = 3) : zMet yX3_feeds cX3_feeds 3 (none) 1 0 rvV (obT) [.ref self, .int p0] (f_X3_feeds self p0) := by
  refine zMet_of (A := [(0, .ref self), (1, .int p0)]) (B := []) (ini := false) RX3 rfl (by decide +kernel) (fun h => by cases h) (by simp [lg_sl, Value.category]) (by simp [lv_args, Value.category]) rfl (by simp [lv_args, Value.category]) fun u => ?_
  unfold f_X3_feeds
  refine go_iconst (pc := 0) (v := 3) dX3_feeds_0 (by decide) ?_
  refine go_istore_n (pc := 1) (j := 2) (i := 2) (A' := [(0, .ref self), (1, .int p0), (2, .int 3)]) rfl (by decide) rfl rfl rfl dX3_feeds_1 ?_
  exact go_weak (A' := [(0, .ref self), (1, .int p0), (2, .int 3)]) (B' := []) ⟨rfl, rfl, rfl, trivial⟩ rfl (fun q h => by cases h) (g_X3_feeds_L2 self p0 t_self zFu 3 u)

def f_X3_feed (self : Nat) (p0 : Int32) (p1 : Int32) (p2 : Int32) (p3 : Int32) (p4 : Int32) (u : zM) : Option (Int32 × zM) := if ((mI u self 41) + 20) ≤ 400 then (bd (f_X3_feeds self p0 u) fun v1 u1 => bd (f_X3_feeds self p1 u1) fun v2 u2 => bd (f_X3_feeds self p2 u2) fun v3 u3 => bd (f_X3_feeds self p3 u3) fun v4 u4 => bd (f_X3_feeds self p4 u4) fun v5 u5 => some ((mI u5 self 41), u5)) else (some ((-1), u))
set_option maxHeartbeats 4000000 in
theorem ct_X3_feed (self : Nat) (p0 : Int32) (p1 : Int32) (p2 : Int32) (p3 : Int32) (p4 : Int32) (t_self : kd self = 3) : zMet yX3_feed cX3_feed 6 (some .int) 2 22 rvI (obT) [.ref self, .int p0, .int p1, .int p2, .int p3, .int p4] (f_X3_feed self p0 p1 p2 p3 p4) := by
  refine zMet_of (A := [(0, .ref self), (1, .int p0), (2, .int p1), (3, .int p2), (4, .int p3), (5, .int p4)]) (B := []) (ini := false) RX3 rfl (by decide +kernel) (fun h => by cases h) (by simp [lg_sl, Value.category]) (by simp [lv_args, Value.category]) rfl (by simp [lv_args, Value.category]) fun u => ?_
  unfold f_X3_feed
  refine go_aload_n (pc := 0) (j := 0) (i := 0) dX3_feed_0 rfl rfl ?_
  refine go_getI (pc := 1) (n := self) (ci := 3) (k := 41) fa_X3_314_3 t_self rfl dX3_feed_1 ?_
  refine go_bipush (pc := 4) (v := 20) dX3_feed_4 (by decide) ?_
  refine go_iadd (pc := 6) dX3_feed_6 ?_
  refine go_sipush (pc := 7) (v := 400) dX3_feed_7 (by decide) ?_
  refine go_icmp_le (pc := 10) (tgt := 15) dX3_feed_10 (by decide) (fun h1 => ?_) (fun h1 => ?_)
  · refine go_aload_n (pc := 15) (j := 0) (i := 0) dX3_feed_15 rfl rfl ?_
    refine go_iload_n (pc := 16) (j := 1) (i := 1) dX3_feed_16 rfl rfl ?_
    refine go_callVV (pc := 17) (ci := 3) (ct_X3_feeds self p0 t_self) lk_X3_317 rfl rfl rfl (by decide) t_self ⟨by decide, by decide⟩ (Nat.le_of_ble_eq_true rfl) dX3_feed_17 rfl fun v1 u1 => ?_
    refine go_aload_n (pc := 20) (j := 0) (i := 0) dX3_feed_20 rfl rfl ?_
    refine go_iload_n (pc := 21) (j := 2) (i := 2) dX3_feed_21 rfl rfl ?_
    refine go_callVV (pc := 22) (ci := 3) (ct_X3_feeds self p1 t_self) lk_X3_317 rfl rfl rfl (by decide) t_self ⟨by decide, by decide⟩ (Nat.le_of_ble_eq_true rfl) dX3_feed_22 rfl fun v2 u2 => ?_
    refine go_aload_n (pc := 25) (j := 0) (i := 0) dX3_feed_25 rfl rfl ?_
    refine go_iload_n (pc := 26) (j := 3) (i := 3) dX3_feed_26 rfl rfl ?_
    refine go_callVV (pc := 27) (ci := 3) (ct_X3_feeds self p2 t_self) lk_X3_317 rfl rfl rfl (by decide) t_self ⟨by decide, by decide⟩ (Nat.le_of_ble_eq_true rfl) dX3_feed_27 rfl fun v3 u3 => ?_
    refine go_aload_n (pc := 30) (j := 0) (i := 0) dX3_feed_30 rfl rfl ?_
    refine go_iload (pc := 31) (i := 4) dX3_feed_31 rfl ?_
    refine go_callVV (pc := 33) (ci := 3) (ct_X3_feeds self p3 t_self) lk_X3_317 rfl rfl rfl (by decide) t_self ⟨by decide, by decide⟩ (Nat.le_of_ble_eq_true rfl) dX3_feed_33 rfl fun v4 u4 => ?_
    refine go_aload_n (pc := 36) (j := 0) (i := 0) dX3_feed_36 rfl rfl ?_
    refine go_iload (pc := 37) (i := 5) dX3_feed_37 rfl ?_
    refine go_callVV (pc := 39) (ci := 3) (ct_X3_feeds self p4 t_self) lk_X3_317 rfl rfl rfl (by decide) t_self ⟨by decide, by decide⟩ (Nat.le_of_ble_eq_true rfl) dX3_feed_39 rfl fun v5 u5 => ?_
    refine go_aload_n (pc := 42) (j := 0) (i := 0) dX3_feed_42 rfl rfl ?_
    refine go_getI (pc := 43) (n := self) (ci := 3) (k := 41) fa_X3_314_3 t_self rfl dX3_feed_43 ?_
    exact go_ireturn (pc := 46) rfl dX3_feed_46
  · refine go_iconst (pc := 13) (v := (-1)) dX3_feed_13 (by decide) ?_
    exact go_ireturn (pc := 14) rfl dX3_feed_14

def f_X3_end (self : Nat) (p0 : Int32) (u : zM) : Option (Int32 × zM) := bd (f_X3_in (Int32.toInt64 p0) 0 (Int32.toInt64 (mI u self 41)) u) fun v1 u1 => if v1 = 0 then (gb 0 (some (0, u1))) else (lt (sI u1 self 41 p0) fun u2 => gb 1 (some (1, u2)))
set_option maxHeartbeats 4000000 in
theorem ct_X3_end (self : Nat) (p0 : Int32) (t_self : kd self = 3) : zMet yX3_end cX3_end 2 (some .boolean) 2 25 rvI (obT) [.ref self, .int p0] (f_X3_end self p0) := by
  refine zMet_of (A := [(0, .ref self), (1, .int p0)]) (B := []) (ini := false) RX3 rfl (by decide +kernel) (fun h => by cases h) (by simp [lg_sl, Value.category]) (by simp [lv_args, Value.category]) rfl (by simp [lv_args, Value.category]) fun u => ?_
  unfold f_X3_end
  refine go_iload_n (pc := 0) (j := 1) (i := 1) dX3_end_0 rfl rfl ?_
  refine go_i2l (pc := 1) dX3_end_1 ?_
  refine go_lconst (pc := 2) (v := 0) dX3_end_2 (by decide) ?_
  refine go_aload_n (pc := 3) (j := 0) (i := 0) dX3_end_3 rfl rfl ?_
  refine go_getI (pc := 4) (n := self) (ci := 3) (k := 41) fa_X3_314_3 t_self rfl dX3_end_4 ?_
  refine go_i2l (pc := 7) dX3_end_7 ?_
  refine go_callSI (pc := 8) (ct_X3_in (Int32.toInt64 p0) 0 (Int32.toInt64 (mI u self 41))) lk_X3_274 rfl ⟨by decide, by decide⟩ (Nat.le_of_ble_eq_true rfl) dX3_end_8 rfl fun v1 u1 => ?_
  refine go_if_ne (pc := 11) (tgt := 16) dX3_end_11 (by decide) (fun h1 => ?_) (fun h1 => ?_)
  · refine go_iconst (pc := 14) (v := 0) dX3_end_14 (by decide) ?_
    exact go_zreturn (pc := 15) rfl dX3_end_15
  · refine go_aload_n (pc := 16) (j := 0) (i := 0) dX3_end_16 rfl rfl ?_
    refine go_iload_n (pc := 17) (j := 1) (i := 1) dX3_end_17 rfl rfl ?_
    refine go_putI (pc := 18) (n := self) (ci := 3) (k := 41) (v := p0) pa_X3_314_3 (fun h => by cases h) t_self rfl zKeep_int dX3_end_18 fun u2 => ?_
    refine go_iconst (pc := 21) (v := 1) dX3_end_21 (by decide) ?_
    exact go_zreturn (pc := 22) rfl dX3_end_22

def f_X3_clauses_L7 (x0 : Nat) (k36 : zM → Option (Int32 × zM)) : Nat → Int32 → zM → Option (Int32 × zM)
  | 0, _, _ => none
  | n + 1, x1, u => if 5 ≤ x1 then (k36 u) else (lt (mR u x0 54) fun r1 => oB r1 fun n1 => ix x1 (mN u n1) (lt (mR u n1 (xN x1)) fun r2 => oB r2 fun n2 => bd (f_X3_isWord x0 n2 u) fun v1 u2 => lt (fun (u3 : zM) => f_X3_clauses_L7 x0 k36 n (x1 + 1) u3) fun j1 => if v1 = 0 then (j1 u2) else (lt (sI u2 x0 47 x1) fun u4 => j1 u4)))
section
variable {c0 s0 : Nat} {tbv : List ExceptionTableEntry}
set_option maxHeartbeats 4000000 in
theorem g_X3_clauses_L7 (x0 : Nat) (k36 : zM → Option (Int32 × zM)) (t_x0 : kd x0 = 3) (hk36 : ∀ (u : zM), Go RX3 cX3_clauses 2 (some .boolean) false 1421 25295 [] (obT) (zQ rvI) c0 s0 36 [(0, .ref x0)] [] [] u (k36 u)) : ∀ (n : Nat) (x1 : Int32) (u : zM), Go RX3 cX3_clauses 2 (some .boolean) false 1421 25295 [] (obT) (zQ rvI) c0 s0 7 [(0, .ref x0), (1, .int x1)] [] [] u (f_X3_clauses_L7 x0 k36 n x1 u) := by
  intro n
  induction n with
  | zero => intros; exact go_none
  | succ n ih =>
    intro x1 u
    unfold f_X3_clauses_L7
    refine go_iload_n (pc := 7) (j := 1) (i := 1) dX3_clauses_7 rfl rfl ?_
    refine go_iconst (pc := 8) (v := 5) dX3_clauses_8 (by decide) ?_
    refine go_icmp_ge (pc := 9) (tgt := 36) dX3_clauses_9 (by decide) (fun h1 => ?_) (fun h1 => ?_)
    · exact go_weak (A' := [(0, .ref x0)]) (B' := []) ⟨rfl, trivial⟩ rfl (fun q h => by cases h) (hk36 u)
    · refine go_aload_n (pc := 12) (j := 0) (i := 0) dX3_clauses_12 rfl rfl ?_
      refine go_aload_n (pc := 13) (j := 0) (i := 0) dX3_clauses_13 rfl rfl ?_
      refine go_getR (pc := 14) (n := x0) (ci := 3) (k := 54) (t := 26) fa_X3_151_3 t_x0 rfl dX3_clauses_14 fun r1 t_r1 => ?_
      refine go_iload_n (pc := 17) (j := 1) (i := 1) dX3_clauses_17 rfl rfl ?_
      refine go_oB fun n1 e_n1 => ?_
      have t_n1 := t_r1 n1 e_n1
      subst e_n1
      refine go_aald (pc := 18) (n := n1) (ci := 26) (t := 27) (by decide) (by decide) t_n1 rfl dX3_clauses_18 fun r2 t_r2 => ?_
      refine go_oB fun n2 e_n2 => ?_
      have t_n2 := t_r2 n2 e_n2
      subst e_n2
      refine go_callVI (pc := 19) (ci := 3) (ct_X3_isWord x0 n2 t_x0 t_n2) lk_X3_382 rfl rfl rfl (by decide) t_x0 ⟨by decide, by decide⟩ (Nat.le_of_ble_eq_true rfl) dX3_clauses_19 rfl fun v1 u2 => ?_
      refine go_join0 (pcx := 30) ([(0, .ref x0), (1, .int x1)]) ([]) ([]) (True) (fun u3 _ => ?_) (fun j1 hj1 => ?_)
      · refine go_iinc (pc := 30) (i := 1) (w := 1) (A' := [(0, .ref x0), (1, .int (x1 + 1))]) rfl (by decide) (by decide) rfl rfl rfl dX3_clauses_30 ?_
        refine go_goto (pc := 33) (tgt := 7) dX3_clauses_33 (by decide) ?_
        exact go_weak (A' := [(0, .ref x0), (1, .int (x1 + 1))]) (B' := []) ⟨rfl, rfl, trivial⟩ rfl (fun q h => by cases h) (ih (x1 + 1) u3)
      · refine go_if_eq (pc := 22) (tgt := 30) dX3_clauses_22 (by decide) (fun h2 => ?_) (fun h2 => ?_)
        · exact go_weak (A' := [(0, .ref x0), (1, .int x1)]) (B' := []) ⟨rfl, rfl, trivial⟩ rfl (fun q h => by cases h) (hj1 u2 trivial)
        · refine go_aload_n (pc := 25) (j := 0) (i := 0) dX3_clauses_25 rfl rfl ?_
          refine go_iload_n (pc := 26) (j := 1) (i := 1) dX3_clauses_26 rfl rfl ?_
          refine go_putI (pc := 27) (n := x0) (ci := 3) (k := 47) (v := x1) pa_X3_354_3 (fun h => by cases h) t_x0 rfl zKeep_int dX3_clauses_27 fun u4 => ?_
          exact go_weak (A' := [(0, .ref x0), (1, .int x1)]) (B' := []) ⟨rfl, rfl, trivial⟩ rfl (fun q h => by cases h) (hj1 u4 trivial)
end
def f_X3_clauses (self : Nat) (u : zM) : Option (Int32 × zM) := lt (sI u self 47 (-1)) fun u1 => f_X3_clauses_L7 self (fun u5 => lt (fun (z1 : Int32) (u6 : zM) => bd (f_X3_passes self z1 u6) fun v2 u7 => if v2 = 0 then (gb 0 (some (0, u7))) else (lt (sI u7 self 45 0) fun u8 => lt (fun (u9 : zM) => lt (mR u9 self 49) fun r3 => oB r3 fun n3 => ix 8 (mN u9 n3) (lt (mR u9 n3 (xN 8)) fun r4 => oB r4 fun n4 => ix (mI u9 self 47) (mN u9 n4) (lt (sI u9 n4 (xN (mI u9 self 47)) (mI u9 self 45)) fun u10 => bd (f_X3_isSign self 59 u10) fun v3 u11 => bd (f_X3_passes self v3 u11) fun v4 u12 => gb v4 (some (v4, u12))))) fun j3 => if 3 ≤ (mI u8 self 47) then (bd (f_X3_either self 0 u8) fun v5 u13 => if v5 = 0 then (gb 0 (some (0, u13))) else (j3 u13)) else (bd (f_X3_sum 10 self 0 u8) fun v6 u14 => if v6 = 0 then (gb 0 (some (0, u14))) else (j3 u14)))) fun j2 => lt (fun (u15 : zM) => j2 0 u15) fun j4 => if (mI u5 self 47) = (-1) then (j4 u5) else (lt (mR u5 self 49) fun r5 => oB r5 fun n5 => ix 8 (mN u5 n5) (lt (mR u5 n5 (xN 8)) fun r6 => oB r6 fun n6 => ix (mI u5 self 47) (mN u5 n6) (if (mI u5 n6 (xN (mI u5 self 47))) = 0 then (j2 1 u5) else (j4 u5))))) zFu 0 u1
set_option maxHeartbeats 4000000 in
theorem ct_X3_clauses (self : Nat) (t_self : kd self = 3) : zMet yX3_clauses cX3_clauses 2 (some .boolean) 1421 25295 rvI (obT) [.ref self] (f_X3_clauses self) := by
  refine zMet_of (A := [(0, .ref self)]) (B := []) (ini := false) RX3 rfl (by decide +kernel) (fun h => by cases h) (by simp [lg_sl, Value.category]) (by simp [lv_args, Value.category]) rfl (by simp [lv_args, Value.category]) fun u => ?_
  unfold f_X3_clauses
  refine go_aload_n (pc := 0) (j := 0) (i := 0) dX3_clauses_0 rfl rfl ?_
  refine go_iconst (pc := 1) (v := (-1)) dX3_clauses_1 (by decide) ?_
  refine go_putI (pc := 2) (n := self) (ci := 3) (k := 47) (v := (-1)) pa_X3_354_3 (fun h => by cases h) t_self rfl zKeep_int dX3_clauses_2 fun u1 => ?_
  refine go_iconst (pc := 5) (v := 0) dX3_clauses_5 (by decide) ?_
  refine go_istore_n (pc := 6) (j := 1) (i := 1) (A' := [(0, .ref self), (1, .int 0)]) rfl (by decide) rfl rfl rfl dX3_clauses_6 ?_
  refine go_weak (A' := [(0, .ref self), (1, .int 0)]) (B' := []) ⟨rfl, rfl, trivial⟩ rfl (fun q h => by cases h) (g_X3_clauses_L7 self _ t_self ?_ zFu 0 u1)
  · intro u5
    refine go_aload_n (pc := 36) (j := 0) (i := 0) dX3_clauses_36 rfl rfl ?_
    refine go_aload_n (pc := 37) (j := 0) (i := 0) dX3_clauses_37 rfl rfl ?_
    refine go_getI (pc := 38) (n := self) (ci := 3) (k := 47) fa_X3_354_3 t_self rfl dX3_clauses_38 ?_
    refine go_iconst (pc := 41) (v := (-1)) dX3_clauses_41 (by decide) ?_
    refine go_join1 (pcx := 65) (α1 := Int32) (fun z1 => [(0, .ref self)]) (fun z1 => []) (fun z1 => [.int z1, .ref self]) (fun z1 => True) (fun z1 u6 _ => ?_) (fun j2 hj2 => ?_)
    · refine go_callVI (pc := 65) (ci := 3) (ct_X3_passes self z1 t_self) lk_X3_368 rfl rfl rfl (by decide) t_self ⟨by decide, by decide⟩ (Nat.le_of_ble_eq_true rfl) dX3_clauses_65 rfl fun v2 u7 => ?_
      refine go_if_ne (pc := 68) (tgt := 73) dX3_clauses_68 (by decide) (fun h3 => ?_) (fun h3 => ?_)
      · refine go_iconst (pc := 71) (v := 0) dX3_clauses_71 (by decide) ?_
        exact go_zreturn (pc := 72) rfl dX3_clauses_72
      · refine go_aload_n (pc := 73) (j := 0) (i := 0) dX3_clauses_73 rfl rfl ?_
        refine go_iconst (pc := 74) (v := 0) dX3_clauses_74 (by decide) ?_
        refine go_putI (pc := 75) (n := self) (ci := 3) (k := 45) (v := 0) pa_X3_357_3 (fun h => by cases h) t_self rfl zKeep_int dX3_clauses_75 fun u8 => ?_
        refine go_aload_n (pc := 78) (j := 0) (i := 0) dX3_clauses_78 rfl rfl ?_
        refine go_getI (pc := 79) (n := self) (ci := 3) (k := 47) fa_X3_354_3 t_self rfl dX3_clauses_79 ?_
        refine go_iconst (pc := 82) (v := 3) dX3_clauses_82 (by decide) ?_
        refine go_join0 (pcx := 107) ([(0, .ref self)]) ([]) ([]) (True) (fun u9 _ => ?_) (fun j3 hj3 => ?_)
        · refine go_aload_n (pc := 107) (j := 0) (i := 0) dX3_clauses_107 rfl rfl ?_
          refine go_getR (pc := 108) (n := self) (ci := 3) (k := 49) (t := 23) fa_X3_130_3 t_self rfl dX3_clauses_108 fun r3 t_r3 => ?_
          refine go_bipush (pc := 111) (v := 8) dX3_clauses_111 (by decide) ?_
          refine go_oB fun n3 e_n3 => ?_
          have t_n3 := t_r3 n3 e_n3
          subst e_n3
          refine go_aald (pc := 113) (n := n3) (ci := 23) (t := 13) (by decide) (by decide) t_n3 rfl dX3_clauses_113 fun r4 t_r4 => ?_
          refine go_aload_n (pc := 114) (j := 0) (i := 0) dX3_clauses_114 rfl rfl ?_
          refine go_getI (pc := 115) (n := self) (ci := 3) (k := 47) fa_X3_354_3 t_self rfl dX3_clauses_115 ?_
          refine go_aload_n (pc := 118) (j := 0) (i := 0) dX3_clauses_118 rfl rfl ?_
          refine go_getI (pc := 119) (n := self) (ci := 3) (k := 45) fa_X3_357_3 t_self rfl dX3_clauses_119 ?_
          refine go_oB fun n4 e_n4 => ?_
          have t_n4 := t_r4 n4 e_n4
          subst e_n4
          refine go_iast (pc := 122) t_n4 dX3_clauses_122 fun u10 => ?_
          refine go_aload_n (pc := 123) (j := 0) (i := 0) dX3_clauses_123 rfl rfl ?_
          refine go_aload_n (pc := 124) (j := 0) (i := 0) dX3_clauses_124 rfl rfl ?_
          refine go_bipush (pc := 125) (v := 59) dX3_clauses_125 (by decide) ?_
          refine go_callVI (pc := 127) (ci := 3) (ct_X3_isSign self 59 t_self) lk_X3_365 rfl rfl rfl (by decide) t_self ⟨by decide, by decide⟩ (Nat.le_of_ble_eq_true rfl) dX3_clauses_127 rfl fun v3 u11 => ?_
          refine go_callVI (pc := 130) (ci := 3) (ct_X3_passes self v3 t_self) lk_X3_368 rfl rfl rfl (by decide) t_self ⟨by decide, by decide⟩ (Nat.le_of_ble_eq_true rfl) dX3_clauses_130 rfl fun v4 u12 => ?_
          exact go_zreturn (pc := 133) rfl dX3_clauses_133
        · refine go_icmp_ge (pc := 83) (tgt := 97) dX3_clauses_83 (by decide) (fun h4 => ?_) (fun h4 => ?_)
          · refine go_aload_n (pc := 97) (j := 0) (i := 0) dX3_clauses_97 rfl rfl ?_
            refine go_iconst (pc := 98) (v := 0) dX3_clauses_98 (by decide) ?_
            refine go_callVI (pc := 99) (ci := 3) (ct_X3_either self 0 t_self) lk_X3_397 rfl rfl rfl (by decide) t_self ⟨by decide, by decide⟩ (Nat.le_of_ble_eq_true rfl) dX3_clauses_99 rfl fun v5 u13 => ?_
            refine go_if_ne (pc := 102) (tgt := 107) dX3_clauses_102 (by decide) (fun h5 => ?_) (fun h5 => ?_)
            · refine go_iconst (pc := 105) (v := 0) dX3_clauses_105 (by decide) ?_
              exact go_zreturn (pc := 106) rfl dX3_clauses_106
            · exact go_weak (A' := [(0, .ref self)]) (B' := []) ⟨rfl, trivial⟩ rfl (fun q h => by cases h) (hj3 u13 trivial)
          · refine go_aload_n (pc := 86) (j := 0) (i := 0) dX3_clauses_86 rfl rfl ?_
            refine go_iconst (pc := 87) (v := 0) dX3_clauses_87 (by decide) ?_
            refine go_callVI (pc := 88) (ci := 3) (ct_X3_sum 10 self 0 t_self) lk_X3_372 rfl rfl rfl (by decide) t_self ⟨by decide, by decide⟩ (Nat.le_of_ble_eq_true rfl) dX3_clauses_88 rfl fun v6 u14 => ?_
            refine go_if_ne (pc := 91) (tgt := 107) dX3_clauses_91 (by decide) (fun h6 => ?_) (fun h6 => ?_)
            · refine go_goto (pc := 94) (tgt := 105) dX3_clauses_94 (by decide) ?_
              refine go_iconst (pc := 105) (v := 0) dX3_clauses_105 (by decide) ?_
              exact go_zreturn (pc := 106) rfl dX3_clauses_106
            · exact go_weak (A' := [(0, .ref self)]) (B' := []) ⟨rfl, trivial⟩ rfl (fun q h => by cases h) (hj3 u14 trivial)
    · refine go_join0 (pcx := 64) ([(0, .ref self)]) ([]) ([.ref self]) (True) (fun u15 _ => ?_) (fun j4 hj4 => ?_)
      · refine go_iconst (pc := 64) (v := 0) dX3_clauses_64 (by decide) ?_
        exact go_weak (A' := [(0, .ref self)]) (B' := []) ⟨rfl, trivial⟩ rfl (fun q h => by cases h) (hj2 0 u15 trivial)
      · refine go_icmp_eq (pc := 42) (tgt := 64) dX3_clauses_42 (by decide) (fun h7 => ?_) (fun h7 => ?_)
        · exact go_weak (A' := [(0, .ref self)]) (B' := []) ⟨rfl, trivial⟩ rfl (fun q h => by cases h) (hj4 u5 trivial)
        · refine go_aload_n (pc := 45) (j := 0) (i := 0) dX3_clauses_45 rfl rfl ?_
          refine go_getR (pc := 46) (n := self) (ci := 3) (k := 49) (t := 23) fa_X3_130_3 t_self rfl dX3_clauses_46 fun r5 t_r5 => ?_
          refine go_bipush (pc := 49) (v := 8) dX3_clauses_49 (by decide) ?_
          refine go_oB fun n5 e_n5 => ?_
          have t_n5 := t_r5 n5 e_n5
          subst e_n5
          refine go_aald (pc := 51) (n := n5) (ci := 23) (t := 13) (by decide) (by decide) t_n5 rfl dX3_clauses_51 fun r6 t_r6 => ?_
          refine go_aload_n (pc := 52) (j := 0) (i := 0) dX3_clauses_52 rfl rfl ?_
          refine go_getI (pc := 53) (n := self) (ci := 3) (k := 47) fa_X3_354_3 t_self rfl dX3_clauses_53 ?_
          refine go_oB fun n6 e_n6 => ?_
          have t_n6 := t_r6 n6 e_n6
          subst e_n6
          refine go_iald (pc := 56) t_n6 dX3_clauses_56 ?_
          refine go_if_ne (pc := 57) (tgt := 64) dX3_clauses_57 (by decide) (fun h8 => ?_) (fun h8 => ?_)
          · refine go_iconst (pc := 60) (v := 1) dX3_clauses_60 (by decide) ?_
            refine go_goto (pc := 61) (tgt := 65) dX3_clauses_61 (by decide) ?_
            exact go_weak (A' := [(0, .ref self)]) (B' := []) ⟨rfl, trivial⟩ rfl (fun q h => by cases h) (hj2 1 u5 trivial)
          · exact go_weak (A' := [(0, .ref self)]) (B' := []) ⟨rfl, trivial⟩ rfl (fun q h => by cases h) (hj4 u5 trivial)

def f_X3_reads_L7 (x0 : Nat) (k28 : zM → Option (Unit × zM)) : Nat → Int32 → zM → Option (Unit × zM)
  | 0, _, _ => none
  | n + 1, x1, u => if 5 ≤ x1 then (k28 u) else (lt (mR u x0 49) fun r1 => oB r1 fun n1 => ix 8 (mN u n1) (lt (mR u n1 (xN 8)) fun r2 => oB r2 fun n2 => ix x1 (mN u n2) (lt (sI u n2 (xN x1) 0) fun u2 => f_X3_reads_L7 x0 k28 n (x1 + 1) u2)))
section
variable {c0 s0 : Nat} {tbv : List ExceptionTableEntry}
set_option maxHeartbeats 4000000 in
theorem g_X3_reads_L7 (x0 : Nat) (k28 : zM → Option (Unit × zM)) (t_x0 : kd x0 = 3) (hk28 : ∀ (u : zM), Go RX3 cX3_reads 2 (none) false 1422 25316 [] (obT) (zQ rvV) c0 s0 28 [(0, .ref x0)] [] [] u (k28 u)) : ∀ (n : Nat) (x1 : Int32) (u : zM), Go RX3 cX3_reads 2 (none) false 1422 25316 [] (obT) (zQ rvV) c0 s0 7 [(0, .ref x0), (1, .int x1)] [] [] u (f_X3_reads_L7 x0 k28 n x1 u) := by
  intro n
  induction n with
  | zero => intros; exact go_none
  | succ n ih =>
    intro x1 u
    unfold f_X3_reads_L7
    refine go_iload_n (pc := 7) (j := 1) (i := 1) dX3_reads_7 rfl rfl ?_
    refine go_iconst (pc := 8) (v := 5) dX3_reads_8 (by decide) ?_
    refine go_icmp_ge (pc := 9) (tgt := 28) dX3_reads_9 (by decide) (fun h1 => ?_) (fun h1 => ?_)
    · exact go_weak (A' := [(0, .ref x0)]) (B' := []) ⟨rfl, trivial⟩ rfl (fun q h => by cases h) (hk28 u)
    · refine go_aload_n (pc := 12) (j := 0) (i := 0) dX3_reads_12 rfl rfl ?_
      refine go_getR (pc := 13) (n := x0) (ci := 3) (k := 49) (t := 23) fa_X3_130_3 t_x0 rfl dX3_reads_13 fun r1 t_r1 => ?_
      refine go_bipush (pc := 16) (v := 8) dX3_reads_16 (by decide) ?_
      refine go_oB fun n1 e_n1 => ?_
      have t_n1 := t_r1 n1 e_n1
      subst e_n1
      refine go_aald (pc := 18) (n := n1) (ci := 23) (t := 13) (by decide) (by decide) t_n1 rfl dX3_reads_18 fun r2 t_r2 => ?_
      refine go_iload_n (pc := 19) (j := 1) (i := 1) dX3_reads_19 rfl rfl ?_
      refine go_iconst (pc := 20) (v := 0) dX3_reads_20 (by decide) ?_
      refine go_oB fun n2 e_n2 => ?_
      have t_n2 := t_r2 n2 e_n2
      subst e_n2
      refine go_iast (pc := 21) t_n2 dX3_reads_21 fun u2 => ?_
      refine go_iinc (pc := 22) (i := 1) (w := 1) (A' := [(0, .ref x0), (1, .int (x1 + 1))]) rfl (by decide) (by decide) rfl rfl rfl dX3_reads_22 ?_
      refine go_goto (pc := 25) (tgt := 7) dX3_reads_25 (by decide) ?_
      exact go_weak (A' := [(0, .ref x0), (1, .int (x1 + 1))]) (B' := []) ⟨rfl, rfl, trivial⟩ rfl (fun q h => by cases h) (ih (x1 + 1) u2)
end
def f_X3_reads_L39 (x0 : Nat) : Nat → Int32 → zM → Option (Unit × zM)
  | 0, _, _ => none
  | n + 1, x1, u => if x1 = 0 then (some ((), u)) else (if (mI u x0 41) ≤ (mI u x0 42) then (some ((), u)) else (bd (f_X3_clauses x0 u) fun v2 u6 => f_X3_reads_L39 x0 n v2 u6))
section
variable {c0 s0 : Nat} {tbv : List ExceptionTableEntry}
set_option maxHeartbeats 4000000 in
theorem g_X3_reads_L39 (x0 : Nat) (t_x0 : kd x0 = 3) : ∀ (n : Nat) (x1 : Int32) (u : zM), Go RX3 cX3_reads 2 (none) false 1422 25316 [] (obT) (zQ rvV) c0 s0 39 [(0, .ref x0), (1, .int x1)] [] [] u (f_X3_reads_L39 x0 n x1 u) := by
  intro n
  induction n with
  | zero => intros; exact go_none
  | succ n ih =>
    intro x1 u
    unfold f_X3_reads_L39
    refine go_iload_n (pc := 39) (j := 1) (i := 1) dX3_reads_39 rfl rfl ?_
    refine go_if_eq (pc := 40) (tgt := 62) dX3_reads_40 (by decide) (fun h2 => ?_) (fun h2 => ?_)
    · exact go_vreturn (pc := 62) rfl dX3_reads_62
    · refine go_aload_n (pc := 43) (j := 0) (i := 0) dX3_reads_43 rfl rfl ?_
      refine go_getI (pc := 44) (n := x0) (ci := 3) (k := 42) fa_X3_321_3 t_x0 rfl dX3_reads_44 ?_
      refine go_aload_n (pc := 47) (j := 0) (i := 0) dX3_reads_47 rfl rfl ?_
      refine go_getI (pc := 48) (n := x0) (ci := 3) (k := 41) fa_X3_314_3 t_x0 rfl dX3_reads_48 ?_
      refine go_icmp_ge (pc := 51) (tgt := 62) dX3_reads_51 (by decide) (fun h3 => ?_) (fun h3 => ?_)
      · exact go_vreturn (pc := 62) rfl dX3_reads_62
      · refine go_aload_n (pc := 54) (j := 0) (i := 0) dX3_reads_54 rfl rfl ?_
        refine go_callVI (pc := 55) (ci := 3) (ct_X3_clauses x0 t_x0) lk_X3_407 rfl rfl rfl (by decide) t_x0 ⟨by decide, by decide⟩ (Nat.le_of_ble_eq_true rfl) dX3_reads_55 rfl fun v2 u6 => ?_
        refine go_istore_n (pc := 58) (j := 1) (i := 1) (A' := [(0, .ref x0), (1, .int v2)]) rfl (by decide) rfl rfl rfl dX3_reads_58 ?_
        refine go_goto (pc := 59) (tgt := 39) dX3_reads_59 (by decide) ?_
        exact go_weak (A' := [(0, .ref x0), (1, .int v2)]) (B' := []) ⟨rfl, rfl, trivial⟩ rfl (fun q h => by cases h) (ih v2 u6)
end
def f_X3_reads (self : Nat) (u : zM) : Option (Unit × zM) := lt (sI u self 44 (-1)) fun u1 => f_X3_reads_L7 self (fun u3 => lt (sI u3 self 42 0) fun u4 => bd (f_X3_skips self u4) fun v1 u5 => f_X3_reads_L39 self zFu 1 u5) zFu 0 u1
set_option maxHeartbeats 4000000 in
theorem ct_X3_reads (self : Nat) (t_self : kd self = 3) : zMet yX3_reads cX3_reads 2 (none) 1422 25316 rvV (obT) [.ref self] (f_X3_reads self) := by
  refine zMet_of (A := [(0, .ref self)]) (B := []) (ini := false) RX3 rfl (by decide +kernel) (fun h => by cases h) (by simp [lg_sl, Value.category]) (by simp [lv_args, Value.category]) rfl (by simp [lv_args, Value.category]) fun u => ?_
  unfold f_X3_reads
  refine go_aload_n (pc := 0) (j := 0) (i := 0) dX3_reads_0 rfl rfl ?_
  refine go_iconst (pc := 1) (v := (-1)) dX3_reads_1 (by decide) ?_
  refine go_putI (pc := 2) (n := self) (ci := 3) (k := 44) (v := (-1)) pa_X3_344_3 (fun h => by cases h) t_self rfl zKeep_int dX3_reads_2 fun u1 => ?_
  refine go_iconst (pc := 5) (v := 0) dX3_reads_5 (by decide) ?_
  refine go_istore_n (pc := 6) (j := 1) (i := 1) (A' := [(0, .ref self), (1, .int 0)]) rfl (by decide) rfl rfl rfl dX3_reads_6 ?_
  refine go_weak (A' := [(0, .ref self), (1, .int 0)]) (B' := []) ⟨rfl, rfl, trivial⟩ rfl (fun q h => by cases h) (g_X3_reads_L7 self _ t_self ?_ zFu 0 u1)
  · intro u3
    refine go_aload_n (pc := 28) (j := 0) (i := 0) dX3_reads_28 rfl rfl ?_
    refine go_iconst (pc := 29) (v := 0) dX3_reads_29 (by decide) ?_
    refine go_putI (pc := 30) (n := self) (ci := 3) (k := 42) (v := 0) pa_X3_321_3 (fun h => by cases h) t_self rfl zKeep_int dX3_reads_30 fun u4 => ?_
    refine go_aload_n (pc := 33) (j := 0) (i := 0) dX3_reads_33 rfl rfl ?_
    refine go_callVV (pc := 34) (ci := 3) (ct_X3_skips self t_self) lk_X3_333 rfl rfl rfl (by decide) t_self ⟨by decide, by decide⟩ (Nat.le_of_ble_eq_true rfl) dX3_reads_34 rfl fun v1 u5 => ?_
    refine go_iconst (pc := 37) (v := 1) dX3_reads_37 (by decide) ?_
    refine go_istore_n (pc := 38) (j := 1) (i := 1) (A' := [(0, .ref self), (1, .int 1)]) rfl (by decide) rfl rfl rfl dX3_reads_38 ?_
    exact go_weak (A' := [(0, .ref self), (1, .int 1)]) (B' := []) ⟨rfl, rfl, trivial⟩ rfl (fun q h => by cases h) (g_X3_reads_L39 self t_self zFu 1 u5)

def f_X3_fault (self : Nat) (u : zM) : Option (Int32 × zM) := bd (f_X3_reads self u) fun v1 u1 => some ((mI u1 self 44), u1)
set_option maxHeartbeats 4000000 in
theorem ct_X3_fault (self : Nat) (t_self : kd self = 3) : zMet yX3_fault cX3_fault 1 (some .int) 1423 25337 rvI (obT) [.ref self] (f_X3_fault self) := by
  refine zMet_of (A := [(0, .ref self)]) (B := []) (ini := false) RX3 rfl (by decide +kernel) (fun h => by cases h) (by simp [lg_sl, Value.category]) (by simp [lv_args, Value.category]) rfl (by simp [lv_args, Value.category]) fun u => ?_
  unfold f_X3_fault
  refine go_aload_n (pc := 0) (j := 0) (i := 0) dX3_fault_0 rfl rfl ?_
  refine go_callVV (pc := 1) (ci := 3) (ct_X3_reads self t_self) lk_X3_410 rfl rfl rfl (by decide) t_self ⟨by decide, by decide⟩ (Nat.le_of_ble_eq_true rfl) dX3_fault_1 rfl fun v1 u1 => ?_
  refine go_aload_n (pc := 4) (j := 0) (i := 0) dX3_fault_4 rfl rfl ?_
  refine go_getI (pc := 5) (n := self) (ci := 3) (k := 44) fa_X3_344_3 t_self rfl dX3_fault_5 ?_
  exact go_ireturn (pc := 8) rfl dX3_fault_8

def f_X3_sheet_L59 (x0 : Nat) (x1 : Int32) (k104 : zM → Option (Int32 × zM)) : Nat → Int32 → zM → Option (Int32 × zM)
  | 0, _, _ => none
  | n + 1, x2, u => lt (mR u x0 49) fun r5 => oB r5 fun n5 => ix 8 (mN u n5) (lt (mR u n5 (xN 8)) fun r6 => oB r6 fun n6 => ix x1 (mN u n6) (if (2 * (mI u n6 (xN x1))) ≤ x2 then (k104 u) else (lt (mR u x0 48) fun r7 => oB r7 fun n7 => ix (mI u x0 52) (mN u n7) (lt (mR u n7 (xN (mI u x0 52))) fun r8 => oB r8 fun n8 => ix x1 (mN u n8) (lt (mR u n8 (xN x1)) fun r9 => lt (mR u x0 48) fun r10 => oB r10 fun n9 => ix 8 (mN u n9) (lt (mR u n9 (xN 8)) fun r11 => oB r11 fun n10 => ix x1 (mN u n10) (lt (mR u n10 (xN x1)) fun r12 => oB r12 fun n11 => ix x2 (mN u n11) (oB r9 fun n12 => ix x2 (mN u n12) (lt (sI u n12 (xN x2) (mI u n11 (xN x2))) fun u4 => f_X3_sheet_L59 x0 x1 k104 n (x2 + 1) u4)))))))))
section
variable {c0 s0 : Nat} {tbv : List ExceptionTableEntry}
set_option maxHeartbeats 4000000 in
theorem g_X3_sheet_L59 (x0 : Nat) (x1 : Int32) (k104 : zM → Option (Int32 × zM)) (t_x0 : kd x0 = 3) (hk104 : ∀ (u : zM), Go RX3 cX3_sheet 3 (some .int) false 1423 25337 [] (obT) (zQ rvI) c0 s0 104 [(0, .ref x0), (1, .int x1)] [] [] u (k104 u)) : ∀ (n : Nat) (x2 : Int32) (u : zM), Go RX3 cX3_sheet 3 (some .int) false 1423 25337 [] (obT) (zQ rvI) c0 s0 59 [(0, .ref x0), (1, .int x1), (2, .int x2)] [] [] u (f_X3_sheet_L59 x0 x1 k104 n x2 u) := by
  intro n
  induction n with
  | zero => intros; exact go_none
  | succ n ih =>
    intro x2 u
    unfold f_X3_sheet_L59
    refine go_iload_n (pc := 59) (j := 2) (i := 2) dX3_sheet_59 rfl rfl ?_
    refine go_iconst (pc := 60) (v := 2) dX3_sheet_60 (by decide) ?_
    refine go_aload_n (pc := 61) (j := 0) (i := 0) dX3_sheet_61 rfl rfl ?_
    refine go_getR (pc := 62) (n := x0) (ci := 3) (k := 49) (t := 23) fa_X3_130_3 t_x0 rfl dX3_sheet_62 fun r5 t_r5 => ?_
    refine go_bipush (pc := 65) (v := 8) dX3_sheet_65 (by decide) ?_
    refine go_oB fun n5 e_n5 => ?_
    have t_n5 := t_r5 n5 e_n5
    subst e_n5
    refine go_aald (pc := 67) (n := n5) (ci := 23) (t := 13) (by decide) (by decide) t_n5 rfl dX3_sheet_67 fun r6 t_r6 => ?_
    refine go_iload_n (pc := 68) (j := 1) (i := 1) dX3_sheet_68 rfl rfl ?_
    refine go_oB fun n6 e_n6 => ?_
    have t_n6 := t_r6 n6 e_n6
    subst e_n6
    refine go_iald (pc := 69) t_n6 dX3_sheet_69 ?_
    refine go_imul (pc := 70) dX3_sheet_70 ?_
    refine go_icmp_ge (pc := 71) (tgt := 104) dX3_sheet_71 (by decide) (fun h4 => ?_) (fun h4 => ?_)
    · exact go_weak (A' := [(0, .ref x0), (1, .int x1)]) (B' := []) ⟨rfl, rfl, trivial⟩ rfl (fun q h => by cases h) (hk104 u)
    · refine go_aload_n (pc := 74) (j := 0) (i := 0) dX3_sheet_74 rfl rfl ?_
      refine go_getR (pc := 75) (n := x0) (ci := 3) (k := 48) (t := 24) fa_X3_127_3 t_x0 rfl dX3_sheet_75 fun r7 t_r7 => ?_
      refine go_aload_n (pc := 78) (j := 0) (i := 0) dX3_sheet_78 rfl rfl ?_
      refine go_getI (pc := 79) (n := x0) (ci := 3) (k := 52) fa_X3_413_3 t_x0 rfl dX3_sheet_79 ?_
      refine go_oB fun n7 e_n7 => ?_
      have t_n7 := t_r7 n7 e_n7
      subst e_n7
      refine go_aald (pc := 82) (n := n7) (ci := 24) (t := 23) (by decide) (by decide) t_n7 rfl dX3_sheet_82 fun r8 t_r8 => ?_
      refine go_iload_n (pc := 83) (j := 1) (i := 1) dX3_sheet_83 rfl rfl ?_
      refine go_oB fun n8 e_n8 => ?_
      have t_n8 := t_r8 n8 e_n8
      subst e_n8
      refine go_aald (pc := 84) (n := n8) (ci := 23) (t := 13) (by decide) (by decide) t_n8 rfl dX3_sheet_84 fun r9 t_r9 => ?_
      refine go_iload_n (pc := 85) (j := 2) (i := 2) dX3_sheet_85 rfl rfl ?_
      refine go_aload_n (pc := 86) (j := 0) (i := 0) dX3_sheet_86 rfl rfl ?_
      refine go_getR (pc := 87) (n := x0) (ci := 3) (k := 48) (t := 24) fa_X3_127_3 t_x0 rfl dX3_sheet_87 fun r10 t_r10 => ?_
      refine go_bipush (pc := 90) (v := 8) dX3_sheet_90 (by decide) ?_
      refine go_oB fun n9 e_n9 => ?_
      have t_n9 := t_r10 n9 e_n9
      subst e_n9
      refine go_aald (pc := 92) (n := n9) (ci := 24) (t := 23) (by decide) (by decide) t_n9 rfl dX3_sheet_92 fun r11 t_r11 => ?_
      refine go_iload_n (pc := 93) (j := 1) (i := 1) dX3_sheet_93 rfl rfl ?_
      refine go_oB fun n10 e_n10 => ?_
      have t_n10 := t_r11 n10 e_n10
      subst e_n10
      refine go_aald (pc := 94) (n := n10) (ci := 23) (t := 13) (by decide) (by decide) t_n10 rfl dX3_sheet_94 fun r12 t_r12 => ?_
      refine go_iload_n (pc := 95) (j := 2) (i := 2) dX3_sheet_95 rfl rfl ?_
      refine go_oB fun n11 e_n11 => ?_
      have t_n11 := t_r12 n11 e_n11
      subst e_n11
      refine go_iald (pc := 96) t_n11 dX3_sheet_96 ?_
      refine go_oB fun n12 e_n12 => ?_
      have t_n12 := t_r9 n12 e_n12
      subst e_n12
      refine go_iast (pc := 97) t_n12 dX3_sheet_97 fun u4 => ?_
      refine go_iinc (pc := 98) (i := 2) (w := 1) (A' := [(0, .ref x0), (1, .int x1), (2, .int (x2 + 1))]) rfl (by decide) (by decide) rfl rfl rfl dX3_sheet_98 ?_
      refine go_goto (pc := 101) (tgt := 59) dX3_sheet_101 (by decide) ?_
      exact go_weak (A' := [(0, .ref x0), (1, .int x1), (2, .int (x2 + 1))]) (B' := []) ⟨rfl, rfl, rfl, trivial⟩ rfl (fun q h => by cases h) (ih (x2 + 1) u4)
end
def f_X3_sheet_L32 (x0 : Nat) (k110 : zM → Option (Int32 × zM)) : Nat → Int32 → zM → Option (Int32 × zM)
  | 0, _, _ => none
  | n + 1, x1, u => if 5 ≤ x1 then (k110 u) else (lt (mR u x0 49) fun r1 => oB r1 fun n1 => ix (mI u x0 52) (mN u n1) (lt (mR u n1 (xN (mI u x0 52))) fun r2 => lt (mR u x0 49) fun r3 => oB r3 fun n2 => ix 8 (mN u n2) (lt (mR u n2 (xN 8)) fun r4 => oB r4 fun n3 => ix x1 (mN u n3) (oB r2 fun n4 => ix x1 (mN u n4) (lt (sI u n4 (xN x1) (mI u n3 (xN x1))) fun u3 => f_X3_sheet_L59 x0 x1 (fun u5 => f_X3_sheet_L32 x0 k110 n (x1 + 1) u5) zFu 0 u3)))))
section
variable {c0 s0 : Nat} {tbv : List ExceptionTableEntry}
set_option maxHeartbeats 4000000 in
theorem g_X3_sheet_L32 (x0 : Nat) (k110 : zM → Option (Int32 × zM)) (t_x0 : kd x0 = 3) (hk110 : ∀ (u : zM), Go RX3 cX3_sheet 3 (some .int) false 1423 25337 [] (obT) (zQ rvI) c0 s0 110 [(0, .ref x0)] [] [] u (k110 u)) : ∀ (n : Nat) (x1 : Int32) (u : zM), Go RX3 cX3_sheet 3 (some .int) false 1423 25337 [] (obT) (zQ rvI) c0 s0 32 [(0, .ref x0), (1, .int x1)] [] [] u (f_X3_sheet_L32 x0 k110 n x1 u) := by
  intro n
  induction n with
  | zero => intros; exact go_none
  | succ n ih =>
    intro x1 u
    unfold f_X3_sheet_L32
    refine go_iload_n (pc := 32) (j := 1) (i := 1) dX3_sheet_32 rfl rfl ?_
    refine go_iconst (pc := 33) (v := 5) dX3_sheet_33 (by decide) ?_
    refine go_icmp_ge (pc := 34) (tgt := 110) dX3_sheet_34 (by decide) (fun h3 => ?_) (fun h3 => ?_)
    · exact go_weak (A' := [(0, .ref x0)]) (B' := []) ⟨rfl, trivial⟩ rfl (fun q h => by cases h) (hk110 u)
    · refine go_aload_n (pc := 37) (j := 0) (i := 0) dX3_sheet_37 rfl rfl ?_
      refine go_getR (pc := 38) (n := x0) (ci := 3) (k := 49) (t := 23) fa_X3_130_3 t_x0 rfl dX3_sheet_38 fun r1 t_r1 => ?_
      refine go_aload_n (pc := 41) (j := 0) (i := 0) dX3_sheet_41 rfl rfl ?_
      refine go_getI (pc := 42) (n := x0) (ci := 3) (k := 52) fa_X3_413_3 t_x0 rfl dX3_sheet_42 ?_
      refine go_oB fun n1 e_n1 => ?_
      have t_n1 := t_r1 n1 e_n1
      subst e_n1
      refine go_aald (pc := 45) (n := n1) (ci := 23) (t := 13) (by decide) (by decide) t_n1 rfl dX3_sheet_45 fun r2 t_r2 => ?_
      refine go_iload_n (pc := 46) (j := 1) (i := 1) dX3_sheet_46 rfl rfl ?_
      refine go_aload_n (pc := 47) (j := 0) (i := 0) dX3_sheet_47 rfl rfl ?_
      refine go_getR (pc := 48) (n := x0) (ci := 3) (k := 49) (t := 23) fa_X3_130_3 t_x0 rfl dX3_sheet_48 fun r3 t_r3 => ?_
      refine go_bipush (pc := 51) (v := 8) dX3_sheet_51 (by decide) ?_
      refine go_oB fun n2 e_n2 => ?_
      have t_n2 := t_r3 n2 e_n2
      subst e_n2
      refine go_aald (pc := 53) (n := n2) (ci := 23) (t := 13) (by decide) (by decide) t_n2 rfl dX3_sheet_53 fun r4 t_r4 => ?_
      refine go_iload_n (pc := 54) (j := 1) (i := 1) dX3_sheet_54 rfl rfl ?_
      refine go_oB fun n3 e_n3 => ?_
      have t_n3 := t_r4 n3 e_n3
      subst e_n3
      refine go_iald (pc := 55) t_n3 dX3_sheet_55 ?_
      refine go_oB fun n4 e_n4 => ?_
      have t_n4 := t_r2 n4 e_n4
      subst e_n4
      refine go_iast (pc := 56) t_n4 dX3_sheet_56 fun u3 => ?_
      refine go_iconst (pc := 57) (v := 0) dX3_sheet_57 (by decide) ?_
      refine go_istore_n (pc := 58) (j := 2) (i := 2) (A' := [(0, .ref x0), (1, .int x1), (2, .int 0)]) rfl (by decide) rfl rfl rfl dX3_sheet_58 ?_
      refine go_weak (A' := [(0, .ref x0), (1, .int x1), (2, .int 0)]) (B' := []) ⟨rfl, rfl, rfl, trivial⟩ rfl (fun q h => by cases h) (g_X3_sheet_L59 x0 x1 _ t_x0 ?_ zFu 0 u3)
      · intro u5
        refine go_iinc (pc := 104) (i := 1) (w := 1) (A' := [(0, .ref x0), (1, .int (x1 + 1))]) rfl (by decide) (by decide) rfl rfl rfl dX3_sheet_104 ?_
        refine go_goto (pc := 107) (tgt := 32) dX3_sheet_107 (by decide) ?_
        exact go_weak (A' := [(0, .ref x0), (1, .int (x1 + 1))]) (B' := []) ⟨rfl, rfl, trivial⟩ rfl (fun q h => by cases h) (ih (x1 + 1) u5)
end
def f_X3_sheet (self : Nat) (u : zM) : Option (Int32 × zM) := if (mI u self 52) = 8 then (some ((-1), u)) else (bd (f_X3_reads self u) fun v1 u1 => if (mI u1 self 44) = (-1) then (lt (sI u1 self 41 0) fun u2 => f_X3_sheet_L32 self (fun u6 => lt (sI u6 self 52 ((mI u6 self 52) + 1)) fun u7 => some (((mI u7 self 52) - 1), u7)) zFu 0 u2) else (some ((-1), u1)))
set_option maxHeartbeats 4000000 in
theorem ct_X3_sheet (self : Nat) (t_self : kd self = 3) : zMet yX3_sheet cX3_sheet 3 (some .int) 1423 25337 rvI (obT) [.ref self] (f_X3_sheet self) := by
  refine zMet_of (A := [(0, .ref self)]) (B := []) (ini := false) RX3 rfl (by decide +kernel) (fun h => by cases h) (by simp [lg_sl, Value.category]) (by simp [lv_args, Value.category]) rfl (by simp [lv_args, Value.category]) fun u => ?_
  unfold f_X3_sheet
  refine go_aload_n (pc := 0) (j := 0) (i := 0) dX3_sheet_0 rfl rfl ?_
  refine go_getI (pc := 1) (n := self) (ci := 3) (k := 52) fa_X3_413_3 t_self rfl dX3_sheet_1 ?_
  refine go_bipush (pc := 4) (v := 8) dX3_sheet_4 (by decide) ?_
  refine go_icmp_ne (pc := 6) (tgt := 11) dX3_sheet_6 (by decide) (fun h1 => ?_) (fun h1 => ?_)
  · refine go_iconst (pc := 9) (v := (-1)) dX3_sheet_9 (by decide) ?_
    exact go_ireturn (pc := 10) rfl dX3_sheet_10
  · refine go_aload_n (pc := 11) (j := 0) (i := 0) dX3_sheet_11 rfl rfl ?_
    refine go_callVV (pc := 12) (ci := 3) (ct_X3_reads self t_self) lk_X3_410 rfl rfl rfl (by decide) t_self ⟨by decide, by decide⟩ (Nat.le_of_ble_eq_true rfl) dX3_sheet_12 rfl fun v1 u1 => ?_
    refine go_aload_n (pc := 15) (j := 0) (i := 0) dX3_sheet_15 rfl rfl ?_
    refine go_getI (pc := 16) (n := self) (ci := 3) (k := 44) fa_X3_344_3 t_self rfl dX3_sheet_16 ?_
    refine go_iconst (pc := 19) (v := (-1)) dX3_sheet_19 (by decide) ?_
    refine go_icmp_eq (pc := 20) (tgt := 25) dX3_sheet_20 (by decide) (fun h2 => ?_) (fun h2 => ?_)
    · refine go_aload_n (pc := 25) (j := 0) (i := 0) dX3_sheet_25 rfl rfl ?_
      refine go_iconst (pc := 26) (v := 0) dX3_sheet_26 (by decide) ?_
      refine go_putI (pc := 27) (n := self) (ci := 3) (k := 41) (v := 0) pa_X3_314_3 (fun h => by cases h) t_self rfl zKeep_int dX3_sheet_27 fun u2 => ?_
      refine go_iconst (pc := 30) (v := 0) dX3_sheet_30 (by decide) ?_
      refine go_istore_n (pc := 31) (j := 1) (i := 1) (A' := [(0, .ref self), (1, .int 0)]) rfl (by decide) rfl rfl rfl dX3_sheet_31 ?_
      refine go_weak (A' := [(0, .ref self), (1, .int 0)]) (B' := []) ⟨rfl, rfl, trivial⟩ rfl (fun q h => by cases h) (g_X3_sheet_L32 self _ t_self ?_ zFu 0 u2)
      · intro u6
        refine go_aload_n (pc := 110) (j := 0) (i := 0) dX3_sheet_110 rfl rfl ?_
        refine go_dupA (pc := 111) dX3_sheet_111 ?_
        refine go_getI (pc := 112) (n := self) (ci := 3) (k := 52) fa_X3_413_3 t_self rfl dX3_sheet_112 ?_
        refine go_iconst (pc := 115) (v := 1) dX3_sheet_115 (by decide) ?_
        refine go_iadd (pc := 116) dX3_sheet_116 ?_
        refine go_putI (pc := 117) (n := self) (ci := 3) (k := 52) (v := ((mI u6 self 52) + 1)) pa_X3_413_3 (fun h => by cases h) t_self rfl zKeep_int dX3_sheet_117 fun u7 => ?_
        refine go_aload_n (pc := 120) (j := 0) (i := 0) dX3_sheet_120 rfl rfl ?_
        refine go_getI (pc := 121) (n := self) (ci := 3) (k := 52) fa_X3_413_3 t_self rfl dX3_sheet_121 ?_
        refine go_iconst (pc := 124) (v := 1) dX3_sheet_124 (by decide) ?_
        refine go_isub (pc := 125) dX3_sheet_125 ?_
        exact go_ireturn (pc := 126) rfl dX3_sheet_126
    · refine go_iconst (pc := 23) (v := (-1)) dX3_sheet_23 (by decide) ?_
      exact go_ireturn (pc := 24) rfl dX3_sheet_24

