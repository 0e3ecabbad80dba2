set_option maxRecDepth 100000
def f_X3_forget (self : Nat) (u : zM) : Option (Int32 × zM) := lt (sI u self 96 0) fun u1 => some ((mI u self 96), u1)
set_option maxHeartbeats 4000000 in
theorem ct_X3_forget (self : Nat) (t_self : kd self = 3) : zMet yX3_forget cX3_forget 2 (some .int) 1 0 rvI (obT) [.ref self] (f_X3_forget self) := by
  refine zMet_of (A := [(0, .ref self)]) (B := []) (ini := false) RX3 rfl (by decide +kernel) (fun h => by cases h) (by simp [lg_sl, Value.category]) (by simp [lv_args, Value.category]) rfl (by simp [lv_args, Value.category]) fun u => ?_
  unfold f_X3_forget
  refine go_aload_n (pc := 0) (j := 0) (i := 0) dX3_forget_0 rfl rfl ?_
  refine go_getI (pc := 1) (n := self) (ci := 3) (k := 96) fa_X3_569_3 t_self rfl dX3_forget_1 ?_
  refine go_istore_n (pc := 4) (j := 1) (i := 1) (A' := [(0, .ref self), (1, .int (mI u self 96))]) rfl (by decide) rfl rfl rfl dX3_forget_4 ?_
  refine go_aload_n (pc := 5) (j := 0) (i := 0) dX3_forget_5 rfl rfl ?_
  refine go_iconst (pc := 6) (v := 0) dX3_forget_6 (by decide) ?_
  refine go_putI (pc := 7) (n := self) (ci := 3) (k := 96) (v := 0) pa_X3_569_3 (fun h => by cases h) t_self rfl zKeep_int dX3_forget_7 fun u1 => ?_
  refine go_iload_n (pc := 10) (j := 1) (i := 1) dX3_forget_10 rfl rfl ?_
  exact go_ireturn (pc := 11) rfl dX3_forget_11

def f_X3_spunWith_L6 (x0 : Nat) (x1 : Int32) : Nat → Int32 → zM → Option (Int32 × zM)
  | 0, _, _ => none
  | n + 1, x2, u => if (mI u x0 96) ≤ x2 then (bd (f_X3_spins x0 u) fun v2 u2 => some (v2, u2)) else (lt (fun (u3 : zM) => f_X3_spunWith_L6 x0 x1 n (x2 + 1) u3) fun j1 => if ((x1 >>> (x2 &&& 31)) &&& 1) = 0 then (j1 u) else (lt (mR u x0 94) fun r1 => oB r1 fun n1 => ix x2 (mN u n1) (lt (mR u x0 20) fun r2 => oB r2 fun n2 => ix (mI u n1 (xN x2)) (mN u n2) (lt (mR u x0 95) fun r3 => oB r3 fun n3 => ix x2 (mN u n3) (lt (fun (u4 : zM) => lt (mR u4 x0 95) fun r4 => oB r4 fun n4 => ix x2 (mN u4 n4) (lt (fun (u5 : zM) => lt (mR u5 x0 95) fun r5 => oB r5 fun n5 => ix x2 (mN u5 n5) (if (mI u5 n5 (xN x2)) = 2 then (lt (mR u5 x0 66) fun r6 => lt (mR u5 x0 66) fun r7 => oB r7 fun n6 => ix (mI u n2 (xN (mI u n1 (xN x2)))) (mN u5 n6) (lt (fun (z1 : Int32) (u6 : zM) => oB r6 fun n7 => ix (mI u n2 (xN (mI u n1 (xN x2)))) (mN u6 n7) (lt (sI u6 n7 (xN (mI u n2 (xN (mI u n1 (xN x2))))) z1) fun u7 => j1 u7)) fun j4 => if ((mI u5 n6 (xN (mI u n2 (xN (mI u n1 (xN x2)))))) + 5) ≤ 9999 then (lt (mR u5 x0 66) fun r8 => oB r8 fun n8 => ix (mI u n2 (xN (mI u n1 (xN x2)))) (mN u5 n8) (j4 ((mI u5 n8 (xN (mI u n2 (xN (mI u n1 (xN x2)))))) + 5) u5)) else (j4 9999 u5))) else (j1 u5))) fun j3 => if (mI u4 n4 (xN x2)) = 1 then (lt (mR u4 x0 68) fun r9 => oB r9 fun n9 => ix (mI u n1 (xN x2)) (mN u4 n9) (if 9 ≤ (mI u4 n9 (xN (mI u n1 (xN x2)))) then (j3 u4) else (lt (mR u4 x0 68) fun r10 => oB r10 fun n10 => ix (mI u n1 (xN x2)) (mN u4 n10) (ix (mI u n1 (xN x2)) (mN u4 n10) (lt (sI u4 n10 (xN (mI u n1 (xN x2))) ((mI u4 n10 (xN (mI u n1 (xN x2)))) + 1)) fun u8 => j3 u8))))) else (j3 u4))) fun j2 => if (mI u n3 (xN x2)) = 0 then (lt (mR u x0 67) fun r11 => oB r11 fun n11 => ix (mI u n1 (xN x2)) (mN u n11) (if 5 ≤ (mI u n11 (xN (mI u n1 (xN x2)))) then (j2 u) else (lt (mR u x0 67) fun r12 => oB r12 fun n12 => ix (mI u n1 (xN x2)) (mN u n12) (ix (mI u n1 (xN x2)) (mN u n12) (lt (sI u n12 (xN (mI u n1 (xN x2))) ((mI u n12 (xN (mI u n1 (xN x2)))) + 1)) fun u9 => j2 u9))))) else (j2 u))))))
section
variable {c0 s0 : Nat} {tbv : List ExceptionTableEntry}
set_option maxHeartbeats 4000000 in
theorem g_X3_spunWith_L6 (x0 : Nat) (x1 : Int32) (t_x0 : kd x0 = 3) : ∀ (n : Nat) (x2 : Int32) (u : zM), Go RX3 cX3_spunWith 5 (some .int) false 3 46 [] (obT) (zQ rvI) c0 s0 6 [(0, .ref x0), (1, .int x1), (2, .int x2)] [] [] u (f_X3_spunWith_L6 x0 x1 n x2 u) := by
  intro n
  induction n with
  | zero => intros; exact go_none
  | succ n ih =>
    intro x2 u
    unfold f_X3_spunWith_L6
    refine go_iload_n (pc := 6) (j := 2) (i := 2) dX3_spunWith_6 rfl rfl ?_
    refine go_aload_n (pc := 7) (j := 0) (i := 0) dX3_spunWith_7 rfl rfl ?_
    refine go_getI (pc := 8) (n := x0) (ci := 3) (k := 96) fa_X3_569_3 t_x0 rfl dX3_spunWith_8 ?_
    refine go_icmp_ge (pc := 11) (tgt := 153) dX3_spunWith_11 (by decide) (fun h1 => ?_) (fun h1 => ?_)
    · refine go_aload_n (pc := 153) (j := 0) (i := 0) dX3_spunWith_153 rfl rfl ?_
      refine go_callVI (pc := 154) (ci := 3) (ct_X3_spins x0 t_x0) lk_X3_457 rfl rfl rfl (by decide) t_x0 ⟨by decide, by decide⟩ (Nat.le_of_ble_eq_true rfl) dX3_spunWith_154 rfl fun v2 u2 => ?_
      exact go_ireturn (pc := 157) rfl dX3_spunWith_157
    · refine go_iload_n (pc := 14) (j := 1) (i := 1) dX3_spunWith_14 rfl rfl ?_
      refine go_iload_n (pc := 15) (j := 2) (i := 2) dX3_spunWith_15 rfl rfl ?_
      refine go_ishr (pc := 16) dX3_spunWith_16 ?_
      refine go_iconst (pc := 17) (v := 1) dX3_spunWith_17 (by decide) ?_
      refine go_iand (pc := 18) dX3_spunWith_18 ?_
      refine go_join0 (pcx := 147) ([(0, .ref x0), (1, .int x1), (2, .int x2)]) ([]) ([]) (True) (fun u3 _ => ?_) (fun j1 hj1 => ?_)
      · refine go_iinc (pc := 147) (i := 2) (w := 1) (A' := [(0, .ref x0), (1, .int x1), (2, .int (x2 + 1))]) rfl (by decide) (by decide) rfl rfl rfl dX3_spunWith_147 ?_
        refine go_goto (pc := 150) (tgt := 6) dX3_spunWith_150 (by decide) ?_
        exact go_weak (A' := [(0, .ref x0), (1, .int x1), (2, .int (x2 + 1))]) (B' := []) ⟨rfl, rfl, rfl, trivial⟩ rfl (fun q h => by cases h) (ih (x2 + 1) u3)
      · refine go_if_ne (pc := 19) (tgt := 25) dX3_spunWith_19 (by decide) (fun h2 => ?_) (fun h2 => ?_)
        · refine go_goto (pc := 22) (tgt := 147) dX3_spunWith_22 (by decide) ?_
          exact go_weak (A' := [(0, .ref x0), (1, .int x1), (2, .int x2)]) (B' := []) ⟨rfl, rfl, rfl, trivial⟩ rfl (fun q h => by cases h) (hj1 u trivial)
        · refine go_aload_n (pc := 25) (j := 0) (i := 0) dX3_spunWith_25 rfl rfl ?_
          refine go_getR (pc := 26) (n := x0) (ci := 3) (k := 94) (t := 13) fa_X3_264_3 t_x0 rfl dX3_spunWith_26 fun r1 t_r1 => ?_
          refine go_iload_n (pc := 29) (j := 2) (i := 2) dX3_spunWith_29 rfl rfl ?_
          refine go_oB fun n1 e_n1 => ?_
          have t_n1 := t_r1 n1 e_n1
          subst e_n1
          refine go_iald (pc := 30) t_n1 dX3_spunWith_30 ?_
          refine go_istore_n (pc := 31) (j := 3) (i := 3) (A' := [(0, .ref x0), (1, .int x1), (2, .int x2), (3, .int (mI u n1 (xN x2)))]) rfl (by decide) rfl rfl rfl dX3_spunWith_31 ?_
          refine go_aload_n (pc := 32) (j := 0) (i := 0) dX3_spunWith_32 rfl rfl ?_
          refine go_getR (pc := 33) (n := x0) (ci := 3) (k := 20) (t := 13) fa_X3_63_3 t_x0 rfl dX3_spunWith_33 fun r2 t_r2 => ?_
          refine go_iload_n (pc := 36) (j := 3) (i := 3) dX3_spunWith_36 rfl rfl ?_
          refine go_oB fun n2 e_n2 => ?_
          have t_n2 := t_r2 n2 e_n2
          subst e_n2
          refine go_iald (pc := 37) t_n2 dX3_spunWith_37 ?_
          refine go_istore (pc := 38) (i := 4) (A' := [(0, .ref x0), (1, .int x1), (2, .int x2), (3, .int (mI u n1 (xN x2))), (4, .int (mI u n2 (xN (mI u n1 (xN x2)))))]) (by decide) rfl rfl rfl dX3_spunWith_38 ?_
          refine go_aload_n (pc := 40) (j := 0) (i := 0) dX3_spunWith_40 rfl rfl ?_
          refine go_getR (pc := 41) (n := x0) (ci := 3) (k := 95) (t := 13) fa_X3_267_3 t_x0 rfl dX3_spunWith_41 fun r3 t_r3 => ?_
          refine go_iload_n (pc := 44) (j := 2) (i := 2) dX3_spunWith_44 rfl rfl ?_
          refine go_oB fun n3 e_n3 => ?_
          have t_n3 := t_r3 n3 e_n3
          subst e_n3
          refine go_iald (pc := 45) t_n3 dX3_spunWith_45 ?_
          refine go_join0 (pcx := 69) ([(0, .ref x0), (1, .int x1), (2, .int x2), (3, .int (mI u n1 (xN x2))), (4, .int (mI u n2 (xN (mI u n1 (xN x2)))))]) ([]) ([]) (True) (fun u4 _ => ?_) (fun j2 hj2 => ?_)
          · refine go_aload_n (pc := 69) (j := 0) (i := 0) dX3_spunWith_69 rfl rfl ?_
            refine go_getR (pc := 70) (n := x0) (ci := 3) (k := 95) (t := 13) fa_X3_267_3 t_x0 rfl dX3_spunWith_70 fun r4 t_r4 => ?_
            refine go_iload_n (pc := 73) (j := 2) (i := 2) dX3_spunWith_73 rfl rfl ?_
            refine go_oB fun n4 e_n4 => ?_
            have t_n4 := t_r4 n4 e_n4
            subst e_n4
            refine go_iald (pc := 74) t_n4 dX3_spunWith_74 ?_
            refine go_iconst (pc := 75) (v := 1) dX3_spunWith_75 (by decide) ?_
            refine go_join0 (pcx := 100) ([(0, .ref x0), (1, .int x1), (2, .int x2), (4, .int (mI u n2 (xN (mI u n1 (xN x2)))))]) ([]) ([]) (True) (fun u5 _ => ?_) (fun j3 hj3 => ?_)
            · refine go_aload_n (pc := 100) (j := 0) (i := 0) dX3_spunWith_100 rfl rfl ?_
              refine go_getR (pc := 101) (n := x0) (ci := 3) (k := 95) (t := 13) fa_X3_267_3 t_x0 rfl dX3_spunWith_101 fun r5 t_r5 => ?_
              refine go_iload_n (pc := 104) (j := 2) (i := 2) dX3_spunWith_104 rfl rfl ?_
              refine go_oB fun n5 e_n5 => ?_
              have t_n5 := t_r5 n5 e_n5
              subst e_n5
              refine go_iald (pc := 105) t_n5 dX3_spunWith_105 ?_
              refine go_iconst (pc := 106) (v := 2) dX3_spunWith_106 (by decide) ?_
              refine go_icmp_ne (pc := 107) (tgt := 147) dX3_spunWith_107 (by decide) (fun h3 => ?_) (fun h3 => ?_)
              · refine go_aload_n (pc := 110) (j := 0) (i := 0) dX3_spunWith_110 rfl rfl ?_
                refine go_getR (pc := 111) (n := x0) (ci := 3) (k := 66) (t := 13) fa_X3_206_3 t_x0 rfl dX3_spunWith_111 fun r6 t_r6 => ?_
                refine go_iload (pc := 114) (i := 4) dX3_spunWith_114 rfl ?_
                refine go_aload_n (pc := 116) (j := 0) (i := 0) dX3_spunWith_116 rfl rfl ?_
                refine go_getR (pc := 117) (n := x0) (ci := 3) (k := 66) (t := 13) fa_X3_206_3 t_x0 rfl dX3_spunWith_117 fun r7 t_r7 => ?_
                refine go_iload (pc := 120) (i := 4) dX3_spunWith_120 rfl ?_
                refine go_oB fun n6 e_n6 => ?_
                have t_n6 := t_r7 n6 e_n6
                subst e_n6
                refine go_iald (pc := 122) t_n6 dX3_spunWith_122 ?_
                refine go_iconst (pc := 123) (v := 5) dX3_spunWith_123 (by decide) ?_
                refine go_iadd (pc := 124) dX3_spunWith_124 ?_
                refine go_sipush (pc := 125) (v := 9999) dX3_spunWith_125 (by decide) ?_
                refine go_join1 (pcx := 146) (α1 := Int32) (fun z1 => [(0, .ref x0), (1, .int x1), (2, .int x2)]) (fun z1 => []) (fun z1 => [.int z1, .int (mI u n2 (xN (mI u n1 (xN x2)))), va_rf r6]) (fun z1 => True) (fun z1 u6 _ => ?_) (fun j4 hj4 => ?_)
                · refine go_oB fun n7 e_n7 => ?_
                  have t_n7 := t_r6 n7 e_n7
                  subst e_n7
                  refine go_iast (pc := 146) t_n7 dX3_spunWith_146 fun u7 => ?_
                  exact go_weak (A' := [(0, .ref x0), (1, .int x1), (2, .int x2)]) (B' := []) ⟨rfl, rfl, rfl, trivial⟩ rfl (fun q h => by cases h) (hj1 u7 trivial)
                · refine go_icmp_le (pc := 128) (tgt := 137) dX3_spunWith_128 (by decide) (fun h4 => ?_) (fun h4 => ?_)
                  · refine go_aload_n (pc := 137) (j := 0) (i := 0) dX3_spunWith_137 rfl rfl ?_
                    refine go_getR (pc := 138) (n := x0) (ci := 3) (k := 66) (t := 13) fa_X3_206_3 t_x0 rfl dX3_spunWith_138 fun r8 t_r8 => ?_
                    refine go_iload (pc := 141) (i := 4) dX3_spunWith_141 rfl ?_
                    refine go_oB fun n8 e_n8 => ?_
                    have t_n8 := t_r8 n8 e_n8
                    subst e_n8
                    refine go_iald (pc := 143) t_n8 dX3_spunWith_143 ?_
                    refine go_iconst (pc := 144) (v := 5) dX3_spunWith_144 (by decide) ?_
                    refine go_iadd (pc := 145) dX3_spunWith_145 ?_
                    exact go_weak (A' := [(0, .ref x0), (1, .int x1), (2, .int x2)]) (B' := []) ⟨rfl, rfl, rfl, trivial⟩ rfl (fun q h => by cases h) (hj4 ((mI u5 n8 (xN (mI u n2 (xN (mI u n1 (xN x2)))))) + 5) u5 trivial)
                  · refine go_sipush (pc := 131) (v := 9999) dX3_spunWith_131 (by decide) ?_
                    refine go_goto (pc := 134) (tgt := 146) dX3_spunWith_134 (by decide) ?_
                    exact go_weak (A' := [(0, .ref x0), (1, .int x1), (2, .int x2)]) (B' := []) ⟨rfl, rfl, rfl, trivial⟩ rfl (fun q h => by cases h) (hj4 9999 u5 trivial)
              · exact go_weak (A' := [(0, .ref x0), (1, .int x1), (2, .int x2)]) (B' := []) ⟨rfl, rfl, rfl, trivial⟩ rfl (fun q h => by cases h) (hj1 u5 trivial)
            · refine go_icmp_ne (pc := 76) (tgt := 100) dX3_spunWith_76 (by decide) (fun h5 => ?_) (fun h5 => ?_)
              · refine go_aload_n (pc := 79) (j := 0) (i := 0) dX3_spunWith_79 rfl rfl ?_
                refine go_getR (pc := 80) (n := x0) (ci := 3) (k := 68) (t := 13) fa_X3_212_3 t_x0 rfl dX3_spunWith_80 fun r9 t_r9 => ?_
                refine go_iload_n (pc := 83) (j := 3) (i := 3) dX3_spunWith_83 rfl rfl ?_
                refine go_oB fun n9 e_n9 => ?_
                have t_n9 := t_r9 n9 e_n9
                subst e_n9
                refine go_iald (pc := 84) t_n9 dX3_spunWith_84 ?_
                refine go_bipush (pc := 85) (v := 9) dX3_spunWith_85 (by decide) ?_
                refine go_icmp_ge (pc := 87) (tgt := 100) dX3_spunWith_87 (by decide) (fun h6 => ?_) (fun h6 => ?_)
                · exact go_weak (A' := [(0, .ref x0), (1, .int x1), (2, .int x2), (4, .int (mI u n2 (xN (mI u n1 (xN x2)))))]) (B' := []) ⟨rfl, rfl, rfl, rfl, trivial⟩ rfl (fun q h => by cases h) (hj3 u4 trivial)
                · refine go_aload_n (pc := 90) (j := 0) (i := 0) dX3_spunWith_90 rfl rfl ?_
                  refine go_getR (pc := 91) (n := x0) (ci := 3) (k := 68) (t := 13) fa_X3_212_3 t_x0 rfl dX3_spunWith_91 fun r10 t_r10 => ?_
                  refine go_iload_n (pc := 94) (j := 3) (i := 3) dX3_spunWith_94 rfl rfl ?_
                  refine go_oB fun n10 e_n10 => ?_
                  have t_n10 := t_r10 n10 e_n10
                  subst e_n10
                  refine go_dup2 (pc := 95) dX3_spunWith_95 ?_
                  refine go_iald (pc := 96) t_n10 dX3_spunWith_96 ?_
                  refine go_iconst (pc := 97) (v := 1) dX3_spunWith_97 (by decide) ?_
                  refine go_iadd (pc := 98) dX3_spunWith_98 ?_
                  refine go_iast (pc := 99) t_n10 dX3_spunWith_99 fun u8 => ?_
                  exact go_weak (A' := [(0, .ref x0), (1, .int x1), (2, .int x2), (4, .int (mI u n2 (xN (mI u n1 (xN x2)))))]) (B' := []) ⟨rfl, rfl, rfl, rfl, trivial⟩ rfl (fun q h => by cases h) (hj3 u8 trivial)
              · exact go_weak (A' := [(0, .ref x0), (1, .int x1), (2, .int x2), (4, .int (mI u n2 (xN (mI u n1 (xN x2)))))]) (B' := []) ⟨rfl, rfl, rfl, rfl, trivial⟩ rfl (fun q h => by cases h) (hj3 u4 trivial)
          · refine go_if_ne (pc := 46) (tgt := 69) dX3_spunWith_46 (by decide) (fun h7 => ?_) (fun h7 => ?_)
            · refine go_aload_n (pc := 49) (j := 0) (i := 0) dX3_spunWith_49 rfl rfl ?_
              refine go_getR (pc := 50) (n := x0) (ci := 3) (k := 67) (t := 13) fa_X3_209_3 t_x0 rfl dX3_spunWith_50 fun r11 t_r11 => ?_
              refine go_iload_n (pc := 53) (j := 3) (i := 3) dX3_spunWith_53 rfl rfl ?_
              refine go_oB fun n11 e_n11 => ?_
              have t_n11 := t_r11 n11 e_n11
              subst e_n11
              refine go_iald (pc := 54) t_n11 dX3_spunWith_54 ?_
              refine go_iconst (pc := 55) (v := 5) dX3_spunWith_55 (by decide) ?_
              refine go_icmp_ge (pc := 56) (tgt := 69) dX3_spunWith_56 (by decide) (fun h8 => ?_) (fun h8 => ?_)
              · exact go_weak (A' := [(0, .ref x0), (1, .int x1), (2, .int x2), (3, .int (mI u n1 (xN x2))), (4, .int (mI u n2 (xN (mI u n1 (xN x2)))))]) (B' := []) ⟨rfl, rfl, rfl, rfl, rfl, trivial⟩ rfl (fun q h => by cases h) (hj2 u trivial)
              · refine go_aload_n (pc := 59) (j := 0) (i := 0) dX3_spunWith_59 rfl rfl ?_
                refine go_getR (pc := 60) (n := x0) (ci := 3) (k := 67) (t := 13) fa_X3_209_3 t_x0 rfl dX3_spunWith_60 fun r12 t_r12 => ?_
                refine go_iload_n (pc := 63) (j := 3) (i := 3) dX3_spunWith_63 rfl rfl ?_
                refine go_oB fun n12 e_n12 => ?_
                have t_n12 := t_r12 n12 e_n12
                subst e_n12
                refine go_dup2 (pc := 64) dX3_spunWith_64 ?_
                refine go_iald (pc := 65) t_n12 dX3_spunWith_65 ?_
                refine go_iconst (pc := 66) (v := 1) dX3_spunWith_66 (by decide) ?_
                refine go_iadd (pc := 67) dX3_spunWith_67 ?_
                refine go_iast (pc := 68) t_n12 dX3_spunWith_68 fun u9 => ?_
                exact go_weak (A' := [(0, .ref x0), (1, .int x1), (2, .int x2), (3, .int (mI u n1 (xN x2))), (4, .int (mI u n2 (xN (mI u n1 (xN x2)))))]) (B' := []) ⟨rfl, rfl, rfl, rfl, rfl, trivial⟩ rfl (fun q h => by cases h) (hj2 u9 trivial)
            · exact go_weak (A' := [(0, .ref x0), (1, .int x1), (2, .int x2), (3, .int (mI u n1 (xN x2))), (4, .int (mI u n2 (xN (mI u n1 (xN x2)))))]) (B' := []) ⟨rfl, rfl, rfl, rfl, rfl, trivial⟩ rfl (fun q h => by cases h) (hj2 u trivial)
end
def f_X3_spunWith (self : Nat) (p0 : Int32) (u : zM) : Option (Int32 × zM) := bd (f_X3_asIs self u) fun v1 u1 => f_X3_spunWith_L6 self p0 zFu 0 u1
set_option maxHeartbeats 4000000 in
theorem ct_X3_spunWith (self : Nat) (p0 : Int32) (t_self : kd self = 3) : zMet yX3_spunWith cX3_spunWith 5 (some .int) 3 46 rvI (obT) [.ref self, .int p0] (f_X3_spunWith self p0) := by
  refine zMet_of (A := [(0, .ref self), (1, .int p0)]) (B := []) (ini := false) RX3 rfl (by decide +kernel) (fun h => by cases h) (by simp [lg_sl, Value.category]) (by simp [lv_args, Value.category]) rfl (by simp [lv_args, Value.category]) fun u => ?_
  unfold f_X3_spunWith
  refine go_aload_n (pc := 0) (j := 0) (i := 0) dX3_spunWith_0 rfl rfl ?_
  refine go_callVV (pc := 1) (ci := 3) (ct_X3_asIs self t_self) lk_X3_454 rfl rfl rfl (by decide) t_self ⟨by decide, by decide⟩ (Nat.le_of_ble_eq_true rfl) dX3_spunWith_1 rfl fun v1 u1 => ?_
  refine go_iconst (pc := 4) (v := 0) dX3_spunWith_4 (by decide) ?_
  refine go_istore_n (pc := 5) (j := 2) (i := 2) (A' := [(0, .ref self), (1, .int p0), (2, .int 0)]) rfl (by decide) rfl rfl rfl dX3_spunWith_5 ?_
  exact go_weak (A' := [(0, .ref self), (1, .int p0), (2, .int 0)]) (B' := []) ⟨rfl, rfl, rfl, trivial⟩ rfl (fun q h => by cases h) (g_X3_spunWith_L6 self p0 t_self zFu 0 u1)

def f_X3_costOf_L4 (x0 : Nat) (x1 : Int32) : Nat → Int32 → Int32 → zM → Option (Int32 × zM)
  | 0, _, _, _ => none
  | n + 1, x2, x3, u => if (mI u x0 96) ≤ x3 then (some (x2, u)) else (lt (fun (z1 : Int32) (u1 : zM) => f_X3_costOf_L4 x0 x1 n (x2 + z1) (x3 + 1) u1) fun j1 => if ((x1 >>> (x3 &&& 31)) &&& 1) = 1 then (lt (mR u x0 93) fun r1 => oB r1 fun n1 => ix x3 (mN u n1) (j1 (mI u n1 (xN x3)) u)) else (j1 0 u))
section
variable {c0 s0 : Nat} {tbv : List ExceptionTableEntry}
set_option maxHeartbeats 4000000 in
theorem g_X3_costOf_L4 (x0 : Nat) (x1 : Int32) (t_x0 : kd x0 = 3) : ∀ (n : Nat) (x2 : Int32) (x3 : Int32) (u : zM), Go RX3 cX3_costOf 4 (some .int) false 1 0 [] (obT) (zQ rvI) c0 s0 4 [(0, .ref x0), (1, .int x1), (2, .int x2), (3, .int x3)] [] [] u (f_X3_costOf_L4 x0 x1 n x2 x3 u) := by
  intro n
  induction n with
  | zero => intros; exact go_none
  | succ n ih =>
    intro x2 x3 u
    unfold f_X3_costOf_L4
    refine go_iload_n (pc := 4) (j := 3) (i := 3) dX3_costOf_4 rfl rfl ?_
    refine go_aload_n (pc := 5) (j := 0) (i := 0) dX3_costOf_5 rfl rfl ?_
    refine go_getI (pc := 6) (n := x0) (ci := 3) (k := 96) fa_X3_569_3 t_x0 rfl dX3_costOf_6 ?_
    refine go_icmp_ge (pc := 9) (tgt := 40) dX3_costOf_9 (by decide) (fun h1 => ?_) (fun h1 => ?_)
    · refine go_iload_n (pc := 40) (j := 2) (i := 2) dX3_costOf_40 rfl rfl ?_
      exact go_ireturn (pc := 41) rfl dX3_costOf_41
    · refine go_iload_n (pc := 12) (j := 2) (i := 2) dX3_costOf_12 rfl rfl ?_
      refine go_iload_n (pc := 13) (j := 1) (i := 1) dX3_costOf_13 rfl rfl ?_
      refine go_iload_n (pc := 14) (j := 3) (i := 3) dX3_costOf_14 rfl rfl ?_
      refine go_ishr (pc := 15) dX3_costOf_15 ?_
      refine go_iconst (pc := 16) (v := 1) dX3_costOf_16 (by decide) ?_
      refine go_iand (pc := 17) dX3_costOf_17 ?_
      refine go_iconst (pc := 18) (v := 1) dX3_costOf_18 (by decide) ?_
      refine go_join1 (pcx := 32) (α1 := Int32) (fun z1 => [(0, .ref x0), (1, .int x1), (3, .int x3)]) (fun z1 => []) (fun z1 => [.int z1, .int x2]) (fun z1 => True) (fun z1 u1 _ => ?_) (fun j1 hj1 => ?_)
      · refine go_iadd (pc := 32) dX3_costOf_32 ?_
        refine go_istore_n (pc := 33) (j := 2) (i := 2) (A' := [(0, .ref x0), (1, .int x1), (3, .int x3), (2, .int (x2 + z1))]) rfl (by decide) rfl rfl rfl dX3_costOf_33 ?_
        refine go_iinc (pc := 34) (i := 3) (w := 1) (A' := [(0, .ref x0), (1, .int x1), (3, .int (x3 + 1)), (2, .int (x2 + z1))]) rfl (by decide) (by decide) rfl rfl rfl dX3_costOf_34 ?_
        refine go_goto (pc := 37) (tgt := 4) dX3_costOf_37 (by decide) ?_
        exact go_weak (A' := [(0, .ref x0), (1, .int x1), (2, .int (x2 + z1)), (3, .int (x3 + 1))]) (B' := []) ⟨rfl, rfl, rfl, rfl, trivial⟩ rfl (fun q h => by cases h) (ih (x2 + z1) (x3 + 1) u1)
      · refine go_icmp_ne (pc := 19) (tgt := 31) dX3_costOf_19 (by decide) (fun h2 => ?_) (fun h2 => ?_)
        · refine go_aload_n (pc := 22) (j := 0) (i := 0) dX3_costOf_22 rfl rfl ?_
          refine go_getR (pc := 23) (n := x0) (ci := 3) (k := 93) (t := 13) fa_X3_261_3 t_x0 rfl dX3_costOf_23 fun r1 t_r1 => ?_
          refine go_iload_n (pc := 26) (j := 3) (i := 3) dX3_costOf_26 rfl rfl ?_
          refine go_oB fun n1 e_n1 => ?_
          have t_n1 := t_r1 n1 e_n1
          subst e_n1
          refine go_iald (pc := 27) t_n1 dX3_costOf_27 ?_
          refine go_goto (pc := 28) (tgt := 32) dX3_costOf_28 (by decide) ?_
          exact go_weak (A' := [(0, .ref x0), (1, .int x1), (3, .int x3)]) (B' := []) ⟨rfl, rfl, rfl, trivial⟩ rfl (fun q h => by cases h) (hj1 (mI u n1 (xN x3)) u trivial)
        · refine go_iconst (pc := 31) (v := 0) dX3_costOf_31 (by decide) ?_
          exact go_weak (A' := [(0, .ref x0), (1, .int x1), (3, .int x3)]) (B' := []) ⟨rfl, rfl, rfl, trivial⟩ rfl (fun q h => by cases h) (hj1 0 u trivial)
end
def f_X3_costOf (self : Nat) (p0 : Int32) (u : zM) : Option (Int32 × zM) := f_X3_costOf_L4 self p0 zFu 0 0 u
set_option maxHeartbeats 4000000 in
theorem ct_X3_costOf (self : Nat) (p0 : Int32) (t_self : kd self = 3) : zMet yX3_costOf cX3_costOf 4 (some .int) 1 0 rvI (obT) [.ref self, .int p0] (f_X3_costOf self p0) := by
  refine zMet_of (A := [(0, .ref self), (1, .int p0)]) (B := []) (ini := false) RX3 rfl (by decide +kernel) (fun h => by cases h) (by simp [lg_sl, Value.category]) (by simp [lv_args, Value.category]) rfl (by simp [lv_args, Value.category]) fun u => ?_
  unfold f_X3_costOf
  refine go_iconst (pc := 0) (v := 0) dX3_costOf_0 (by decide) ?_
  refine go_istore_n (pc := 1) (j := 2) (i := 2) (A' := [(0, .ref self), (1, .int p0), (2, .int 0)]) rfl (by decide) rfl rfl rfl dX3_costOf_1 ?_
  refine go_iconst (pc := 2) (v := 0) dX3_costOf_2 (by decide) ?_
  refine go_istore_n (pc := 3) (j := 3) (i := 3) (A' := [(0, .ref self), (1, .int p0), (2, .int 0), (3, .int 0)]) rfl (by decide) rfl rfl rfl dX3_costOf_3 ?_
  exact go_weak (A' := [(0, .ref self), (1, .int p0), (2, .int 0), (3, .int 0)]) (B' := []) ⟨rfl, rfl, rfl, rfl, trivial⟩ rfl (fun q h => by cases h) (g_X3_costOf_L4 self p0 t_self zFu 0 0 u)

def f_X3_best_L40 (x0 : Nat) (x1 : Int32) (x2 : Int32) (k116 : Int32 → Int32 → zM → Option (Int32 × zM)) : Nat → Int32 → Int32 → Int32 → zM → Option (Int32 × zM)
  | 0, _, _, _, _ => none
  | n + 1, x3, x4, x5, u => if (1 <<< ((mI u x0 96) &&& 31)) ≤ x5 then (k116 x3 x4 u) else (bd (f_X3_costOf x0 x5 u) fun v3 u3 => lt (fun (z1 : Int32) (z2 : Int32) (u4 : zM) => f_X3_best_L40 x0 x1 x2 k116 n z1 z2 (x5 + 1) u4) fun j1 => if v3 ≤ x1 then (bd (f_X3_spunWith x0 x5 u3) fun v4 u5 => if v4 < x4 then (j1 x3 x4 u5) else (lt (fun (u6 : zM) => j1 x5 v4 u6) fun j2 => if v4 = x4 then (bd (f_X3_costOf x0 x5 u5) fun v5 u7 => bd (f_X3_costOf x0 x3 u7) fun v6 u8 => if v5 < v6 then (j2 u8) else (j1 x3 x4 u8)) else (j2 u5))) else (j1 x3 x4 u3))
section
variable {c0 s0 : Nat} {tbv : List ExceptionTableEntry}
set_option maxHeartbeats 4000000 in
theorem g_X3_best_L40 (x0 : Nat) (x1 : Int32) (x2 : Int32) (k116 : Int32 → Int32 → zM → Option (Int32 × zM)) (t_x0 : kd x0 = 3) (hk116 : ∀ (x3 : Int32) (x4 : Int32) (u : zM), Go RX3 cX3_best 7 (some .int) false 4 70 [] (obT) (zQ rvI) c0 s0 116 [(0, .ref x0), (2, .int x2), (3, .int x3), (4, .int x4)] [] [] u (k116 x3 x4 u)) : ∀ (n : Nat) (x3 : Int32) (x4 : Int32) (x5 : Int32) (u : zM), Go RX3 cX3_best 7 (some .int) false 4 70 [] (obT) (zQ rvI) c0 s0 40 [(0, .ref x0), (1, .int x1), (2, .int x2), (3, .int x3), (4, .int x4), (5, .int x5)] [] [] u (f_X3_best_L40 x0 x1 x2 k116 n x3 x4 x5 u) := by
  intro n
  induction n with
  | zero => intros; exact go_none
  | succ n ih =>
    intro x3 x4 x5 u
    unfold f_X3_best_L40
    refine go_iload (pc := 40) (i := 5) dX3_best_40 rfl ?_
    refine go_iconst (pc := 42) (v := 1) dX3_best_42 (by decide) ?_
    refine go_aload_n (pc := 43) (j := 0) (i := 0) dX3_best_43 rfl rfl ?_
    refine go_getI (pc := 44) (n := x0) (ci := 3) (k := 96) fa_X3_569_3 t_x0 rfl dX3_best_44 ?_
    refine go_ishl (pc := 47) dX3_best_47 ?_
    refine go_icmp_ge (pc := 48) (tgt := 116) dX3_best_48 (by decide) (fun h4 => ?_) (fun h4 => ?_)
    · exact go_weak (A' := [(0, .ref x0), (2, .int x2), (3, .int x3), (4, .int x4)]) (B' := []) ⟨rfl, rfl, rfl, rfl, trivial⟩ rfl (fun q h => by cases h) (hk116 x3 x4 u)
    · refine go_aload_n (pc := 51) (j := 0) (i := 0) dX3_best_51 rfl rfl ?_
      refine go_iload (pc := 52) (i := 5) dX3_best_52 rfl ?_
      refine go_callVI (pc := 54) (ci := 3) (ct_X3_costOf x0 x5 t_x0) lk_X3_575 rfl rfl rfl (by decide) t_x0 ⟨by decide, by decide⟩ (Nat.le_of_ble_eq_true rfl) dX3_best_54 rfl fun v3 u3 => ?_
      refine go_iload_n (pc := 57) (j := 1) (i := 1) dX3_best_57 rfl rfl ?_
      refine go_join2 (pcx := 110) (α1 := Int32) (α2 := Int32) (fun z1 z2 => [(0, .ref x0), (1, .int x1), (2, .int x2), (3, .int z1), (4, .int z2), (5, .int x5)]) (fun z1 z2 => []) (fun z1 z2 => []) (fun z1 z2 => True) (fun z1 z2 u4 _ => ?_) (fun j1 hj1 => ?_)
      · refine go_iinc (pc := 110) (i := 5) (w := 1) (A' := [(0, .ref x0), (1, .int x1), (2, .int x2), (3, .int z1), (4, .int z2), (5, .int (x5 + 1))]) rfl (by decide) (by decide) rfl rfl rfl dX3_best_110 ?_
        refine go_goto (pc := 113) (tgt := 40) dX3_best_113 (by decide) ?_
        exact go_weak (A' := [(0, .ref x0), (1, .int x1), (2, .int x2), (3, .int z1), (4, .int z2), (5, .int (x5 + 1))]) (B' := []) ⟨rfl, rfl, rfl, rfl, rfl, rfl, trivial⟩ rfl (fun q h => by cases h) (ih z1 z2 (x5 + 1) u4)
      · refine go_icmp_le (pc := 58) (tgt := 64) dX3_best_58 (by decide) (fun h5 => ?_) (fun h5 => ?_)
        · refine go_aload_n (pc := 64) (j := 0) (i := 0) dX3_best_64 rfl rfl ?_
          refine go_iload (pc := 65) (i := 5) dX3_best_65 rfl ?_
          refine go_callVI (pc := 67) (ci := 3) (ct_X3_spunWith x0 x5 t_x0) lk_X3_572 rfl rfl rfl (by decide) t_x0 ⟨by decide, by decide⟩ (Nat.le_of_ble_eq_true rfl) dX3_best_67 rfl fun v4 u5 => ?_
          refine go_istore (pc := 70) (i := 6) (A' := [(0, .ref x0), (1, .int x1), (2, .int x2), (3, .int x3), (4, .int x4), (5, .int x5), (6, .int v4)]) (by decide) rfl rfl rfl dX3_best_70 ?_
          refine go_iload (pc := 72) (i := 6) dX3_best_72 rfl ?_
          refine go_iload (pc := 74) (i := 4) dX3_best_74 rfl ?_
          refine go_icmp_lt (pc := 76) (tgt := 110) dX3_best_76 (by decide) (fun h6 => ?_) (fun h6 => ?_)
          · exact go_weak (A' := [(0, .ref x0), (1, .int x1), (2, .int x2), (3, .int x3), (4, .int x4), (5, .int x5)]) (B' := []) ⟨rfl, rfl, rfl, rfl, rfl, rfl, trivial⟩ rfl (fun q h => by cases h) (hj1 x3 x4 u5 trivial)
          · refine go_iload (pc := 79) (i := 6) dX3_best_79 rfl ?_
            refine go_iload (pc := 81) (i := 4) dX3_best_81 rfl ?_
            refine go_join0 (pcx := 103) ([(0, .ref x0), (1, .int x1), (2, .int x2), (5, .int x5), (6, .int v4)]) ([]) ([]) (True) (fun u6 _ => ?_) (fun j2 hj2 => ?_)
            · refine go_iload (pc := 103) (i := 5) dX3_best_103 rfl ?_
              refine go_istore_n (pc := 105) (j := 3) (i := 3) (A' := [(0, .ref x0), (1, .int x1), (2, .int x2), (5, .int x5), (6, .int v4), (3, .int x5)]) rfl (by decide) rfl rfl rfl dX3_best_105 ?_
              refine go_iload (pc := 106) (i := 6) dX3_best_106 rfl ?_
              refine go_istore (pc := 108) (i := 4) (A' := [(0, .ref x0), (1, .int x1), (2, .int x2), (5, .int x5), (6, .int v4), (3, .int x5), (4, .int v4)]) (by decide) rfl rfl rfl dX3_best_108 ?_
              exact go_weak (A' := [(0, .ref x0), (1, .int x1), (2, .int x2), (3, .int x5), (4, .int v4), (5, .int x5)]) (B' := []) ⟨rfl, rfl, rfl, rfl, rfl, rfl, trivial⟩ rfl (fun q h => by cases h) (hj1 x5 v4 u6 trivial)
            · refine go_icmp_ne (pc := 83) (tgt := 103) dX3_best_83 (by decide) (fun h7 => ?_) (fun h7 => ?_)
              · refine go_aload_n (pc := 86) (j := 0) (i := 0) dX3_best_86 rfl rfl ?_
                refine go_iload (pc := 87) (i := 5) dX3_best_87 rfl ?_
                refine go_callVI (pc := 89) (ci := 3) (ct_X3_costOf x0 x5 t_x0) lk_X3_575 rfl rfl rfl (by decide) t_x0 ⟨by decide, by decide⟩ (Nat.le_of_ble_eq_true rfl) dX3_best_89 rfl fun v5 u7 => ?_
                refine go_aload_n (pc := 92) (j := 0) (i := 0) dX3_best_92 rfl rfl ?_
                refine go_iload_n (pc := 93) (j := 3) (i := 3) dX3_best_93 rfl rfl ?_
                refine go_callVI (pc := 94) (ci := 3) (ct_X3_costOf x0 x3 t_x0) lk_X3_575 rfl rfl rfl (by decide) t_x0 ⟨by decide, by decide⟩ (Nat.le_of_ble_eq_true rfl) dX3_best_94 rfl fun v6 u8 => ?_
                refine go_icmp_lt (pc := 97) (tgt := 103) dX3_best_97 (by decide) (fun h8 => ?_) (fun h8 => ?_)
                · exact go_weak (A' := [(0, .ref x0), (1, .int x1), (2, .int x2), (5, .int x5), (6, .int v4)]) (B' := []) ⟨rfl, rfl, rfl, rfl, rfl, trivial⟩ rfl (fun q h => by cases h) (hj2 u8 trivial)
                · refine go_goto (pc := 100) (tgt := 110) dX3_best_100 (by decide) ?_
                  exact go_weak (A' := [(0, .ref x0), (1, .int x1), (2, .int x2), (3, .int x3), (4, .int x4), (5, .int x5)]) (B' := []) ⟨rfl, rfl, rfl, rfl, rfl, rfl, trivial⟩ rfl (fun q h => by cases h) (hj1 x3 x4 u8 trivial)
              · exact go_weak (A' := [(0, .ref x0), (1, .int x1), (2, .int x2), (5, .int x5), (6, .int v4)]) (B' := []) ⟨rfl, rfl, rfl, rfl, rfl, trivial⟩ rfl (fun q h => by cases h) (hj2 u5 trivial)
        · refine go_goto (pc := 61) (tgt := 110) dX3_best_61 (by decide) ?_
          exact go_weak (A' := [(0, .ref x0), (1, .int x1), (2, .int x2), (3, .int x3), (4, .int x4), (5, .int x5)]) (B' := []) ⟨rfl, rfl, rfl, rfl, rfl, rfl, trivial⟩ rfl (fun q h => by cases h) (hj1 x3 x4 u3 trivial)
end
def f_X3_best (self : Nat) (p0 : Int32) (p1 : Int32) (u : zM) : Option (Int32 × zM) := if p0 < 0 then (some ((-1), u)) else (bd (f_X3_in (Int32.toInt64 p1) 0 2 u) fun v1 u1 => if v1 = 0 then (some ((-1), u1)) else (if (mI u1 self 0) = 156 then (some ((-1), u1)) else (bd (f_X3_spunWith self 0 u1) fun v2 u2 => f_X3_best_L40 self p0 p1 (fun z3 z4 u9 => if p1 = 0 then (some (z3, u9)) else (if p1 = 1 then (some (z4, u9)) else (bd (f_X3_costOf self z3 u9) fun v7 u10 => some (v7, u10)))) zFu 0 v2 1 u2)))
set_option maxHeartbeats 4000000 in
theorem ct_X3_best (self : Nat) (p0 : Int32) (p1 : Int32) (t_self : kd self = 3) : zMet yX3_best cX3_best 7 (some .int) 4 70 rvI (obT) [.ref self, .int p0, .int p1] (f_X3_best self p0 p1) := by
  refine zMet_of (A := [(0, .ref self), (1, .int p0), (2, .int p1)]) (B := []) (ini := false) RX3 rfl (by decide +kernel) (fun h => by cases h) (by simp [lg_sl, Value.category]) (by simp [lv_args, Value.category]) rfl (by simp [lv_args, Value.category]) fun u => ?_
  unfold f_X3_best
  refine go_iload_n (pc := 0) (j := 1) (i := 1) dX3_best_0 rfl rfl ?_
  refine go_if_lt (pc := 1) (tgt := 26) dX3_best_1 (by decide) (fun h1 => ?_) (fun h1 => ?_)
  · refine go_iconst (pc := 26) (v := (-1)) dX3_best_26 (by decide) ?_
    exact go_ireturn (pc := 27) rfl dX3_best_27
  · refine go_iload_n (pc := 4) (j := 2) (i := 2) dX3_best_4 rfl rfl ?_
    refine go_i2l (pc := 5) dX3_best_5 ?_
    refine go_lconst (pc := 6) (v := 0) dX3_best_6 (by decide) ?_
    refine go_ldc2 (pc := 7) (v := 2) dX3_best_7 q1742 ?_
    refine go_callSI (pc := 10) (ct_X3_in (Int32.toInt64 p1) 0 2) lk_X3_274 rfl ⟨by decide, by decide⟩ (Nat.le_of_ble_eq_true rfl) dX3_best_10 rfl fun v1 u1 => ?_
    refine go_if_eq (pc := 13) (tgt := 26) dX3_best_13 (by decide) (fun h2 => ?_) (fun h2 => ?_)
    · refine go_iconst (pc := 26) (v := (-1)) dX3_best_26 (by decide) ?_
      exact go_ireturn (pc := 27) rfl dX3_best_27
    · refine go_aload_n (pc := 16) (j := 0) (i := 0) dX3_best_16 rfl rfl ?_
      refine go_getI (pc := 17) (n := self) (ci := 3) (k := 0) fa_X3_286_3 t_self rfl dX3_best_17 ?_
      refine go_sipush (pc := 20) (v := 156) dX3_best_20 (by decide) ?_
      refine go_icmp_ne (pc := 23) (tgt := 28) dX3_best_23 (by decide) (fun h3 => ?_) (fun h3 => ?_)
      · refine go_iconst (pc := 26) (v := (-1)) dX3_best_26 (by decide) ?_
        exact go_ireturn (pc := 27) rfl dX3_best_27
      · refine go_iconst (pc := 28) (v := 0) dX3_best_28 (by decide) ?_
        refine go_istore_n (pc := 29) (j := 3) (i := 3) (A' := [(0, .ref self), (1, .int p0), (2, .int p1), (3, .int 0)]) rfl (by decide) rfl rfl rfl dX3_best_29 ?_
        refine go_aload_n (pc := 30) (j := 0) (i := 0) dX3_best_30 rfl rfl ?_
        refine go_iconst (pc := 31) (v := 0) dX3_best_31 (by decide) ?_
        refine go_callVI (pc := 32) (ci := 3) (ct_X3_spunWith self 0 t_self) lk_X3_572 rfl rfl rfl (by decide) t_self ⟨by decide, by decide⟩ (Nat.le_of_ble_eq_true rfl) dX3_best_32 rfl fun v2 u2 => ?_
        refine go_istore (pc := 35) (i := 4) (A' := [(0, .ref self), (1, .int p0), (2, .int p1), (3, .int 0), (4, .int v2)]) (by decide) rfl rfl rfl dX3_best_35 ?_
        refine go_iconst (pc := 37) (v := 1) dX3_best_37 (by decide) ?_
        refine go_istore (pc := 38) (i := 5) (A' := [(0, .ref self), (1, .int p0), (2, .int p1), (3, .int 0), (4, .int v2), (5, .int 1)]) (by decide) rfl rfl rfl dX3_best_38 ?_
        refine go_weak (A' := [(0, .ref self), (1, .int p0), (2, .int p1), (3, .int 0), (4, .int v2), (5, .int 1)]) (B' := []) ⟨rfl, rfl, rfl, rfl, rfl, rfl, trivial⟩ rfl (fun q h => by cases h) (g_X3_best_L40 self p0 p1 _ t_self ?_ zFu 0 v2 1 u2)
        · intro z3 z4 u9
          refine go_iload_n (pc := 116) (j := 2) (i := 2) dX3_best_116 rfl rfl ?_
          refine go_if_ne (pc := 117) (tgt := 124) dX3_best_117 (by decide) (fun h9 => ?_) (fun h9 => ?_)
          · refine go_iload_n (pc := 120) (j := 3) (i := 3) dX3_best_120 rfl rfl ?_
            refine go_goto (pc := 121) (tgt := 139) dX3_best_121 (by decide) ?_
            exact go_ireturn (pc := 139) rfl dX3_best_139
          · refine go_iload_n (pc := 124) (j := 2) (i := 2) dX3_best_124 rfl rfl ?_
            refine go_iconst (pc := 125) (v := 1) dX3_best_125 (by decide) ?_
            refine go_icmp_ne (pc := 126) (tgt := 134) dX3_best_126 (by decide) (fun h10 => ?_) (fun h10 => ?_)
            · refine go_iload (pc := 129) (i := 4) dX3_best_129 rfl ?_
              refine go_goto (pc := 131) (tgt := 139) dX3_best_131 (by decide) ?_
              exact go_ireturn (pc := 139) rfl dX3_best_139
            · refine go_aload_n (pc := 134) (j := 0) (i := 0) dX3_best_134 rfl rfl ?_
              refine go_iload_n (pc := 135) (j := 3) (i := 3) dX3_best_135 rfl rfl ?_
              refine go_callVI (pc := 136) (ci := 3) (ct_X3_costOf self z3 t_self) lk_X3_575 rfl rfl rfl (by decide) t_self ⟨by decide, by decide⟩ (Nat.le_of_ble_eq_true rfl) dX3_best_136 rfl fun v7 u10 => ?_
              exact go_ireturn (pc := 139) rfl dX3_best_139

def f_X3_hungry_L18 (x0 : Nat) (x1 : Int32) : Nat → Int32 → Int32 → zM → Option (Int32 × zM)
  | 0, _, _, _ => none
  | n + 1, x2, x3, u => if (mI u x0 2) ≤ x3 then (some (x2, u)) else (lt (mR u x0 25) fun r1 => oB r1 fun n1 => ix x3 (mN u n1) (lt (mR u x0 24) fun r2 => oB r2 fun n2 => ix x3 (mN u n2) (lt (fun (z1 : Int32) (u2 : zM) => f_X3_hungry_L18 x0 x1 n (x2 ||| z1) (x3 + 1) u2) fun j1 => if ((mI u n2 (xN x3)) * x1) ≤ (mI u n1 (xN x3)) then (j1 0 u) else (j1 (1 <<< (x3 &&& 31)) u))))
section
variable {c0 s0 : Nat} {tbv : List ExceptionTableEntry}
set_option maxHeartbeats 4000000 in
theorem g_X3_hungry_L18 (x0 : Nat) (x1 : Int32) (t_x0 : kd x0 = 3) : ∀ (n : Nat) (x2 : Int32) (x3 : Int32) (u : zM), Go RX3 cX3_hungry 4 (some .int) false 2 25 [] (obT) (zQ rvI) c0 s0 18 [(0, .ref x0), (1, .int x1), (2, .int x2), (3, .int x3)] [] [] u (f_X3_hungry_L18 x0 x1 n x2 x3 u) := by
  intro n
  induction n with
  | zero => intros; exact go_none
  | succ n ih =>
    intro x2 x3 u
    unfold f_X3_hungry_L18
    refine go_iload_n (pc := 18) (j := 3) (i := 3) dX3_hungry_18 rfl rfl ?_
    refine go_aload_n (pc := 19) (j := 0) (i := 0) dX3_hungry_19 rfl rfl ?_
    refine go_getI (pc := 20) (n := x0) (ci := 3) (k := 2) fa_X3_278_3 t_x0 rfl dX3_hungry_20 ?_
    refine go_icmp_ge (pc := 23) (tgt := 59) dX3_hungry_23 (by decide) (fun h2 => ?_) (fun h2 => ?_)
    · refine go_iload_n (pc := 59) (j := 2) (i := 2) dX3_hungry_59 rfl rfl ?_
      exact go_ireturn (pc := 60) rfl dX3_hungry_60
    · refine go_iload_n (pc := 26) (j := 2) (i := 2) dX3_hungry_26 rfl rfl ?_
      refine go_aload_n (pc := 27) (j := 0) (i := 0) dX3_hungry_27 rfl rfl ?_
      refine go_getR (pc := 28) (n := x0) (ci := 3) (k := 25) (t := 13) fa_X3_78_3 t_x0 rfl dX3_hungry_28 fun r1 t_r1 => ?_
      refine go_iload_n (pc := 31) (j := 3) (i := 3) dX3_hungry_31 rfl rfl ?_
      refine go_oB fun n1 e_n1 => ?_
      have t_n1 := t_r1 n1 e_n1
      subst e_n1
      refine go_iald (pc := 32) t_n1 dX3_hungry_32 ?_
      refine go_aload_n (pc := 33) (j := 0) (i := 0) dX3_hungry_33 rfl rfl ?_
      refine go_getR (pc := 34) (n := x0) (ci := 3) (k := 24) (t := 13) fa_X3_75_3 t_x0 rfl dX3_hungry_34 fun r2 t_r2 => ?_
      refine go_iload_n (pc := 37) (j := 3) (i := 3) dX3_hungry_37 rfl rfl ?_
      refine go_oB fun n2 e_n2 => ?_
      have t_n2 := t_r2 n2 e_n2
      subst e_n2
      refine go_iald (pc := 38) t_n2 dX3_hungry_38 ?_
      refine go_iload_n (pc := 39) (j := 1) (i := 1) dX3_hungry_39 rfl rfl ?_
      refine go_imul (pc := 40) dX3_hungry_40 ?_
      refine go_join1 (pcx := 51) (α1 := Int32) (fun z1 => [(0, .ref x0), (1, .int x1), (3, .int x3)]) (fun z1 => []) (fun z1 => [.int z1, .int x2]) (fun z1 => True) (fun z1 u2 _ => ?_) (fun j1 hj1 => ?_)
      · refine go_ior (pc := 51) dX3_hungry_51 ?_
        refine go_istore_n (pc := 52) (j := 2) (i := 2) (A' := [(0, .ref x0), (1, .int x1), (3, .int x3), (2, .int (x2 ||| z1))]) rfl (by decide) rfl rfl rfl dX3_hungry_52 ?_
        refine go_iinc (pc := 53) (i := 3) (w := 1) (A' := [(0, .ref x0), (1, .int x1), (3, .int (x3 + 1)), (2, .int (x2 ||| z1))]) rfl (by decide) (by decide) rfl rfl rfl dX3_hungry_53 ?_
        refine go_goto (pc := 56) (tgt := 18) dX3_hungry_56 (by decide) ?_
        exact go_weak (A' := [(0, .ref x0), (1, .int x1), (2, .int (x2 ||| z1)), (3, .int (x3 + 1))]) (B' := []) ⟨rfl, rfl, rfl, rfl, trivial⟩ rfl (fun q h => by cases h) (ih (x2 ||| z1) (x3 + 1) u2)
      · refine go_icmp_ge (pc := 41) (tgt := 50) dX3_hungry_41 (by decide) (fun h3 => ?_) (fun h3 => ?_)
        · refine go_iconst (pc := 50) (v := 0) dX3_hungry_50 (by decide) ?_
          exact go_weak (A' := [(0, .ref x0), (1, .int x1), (3, .int x3)]) (B' := []) ⟨rfl, rfl, rfl, trivial⟩ rfl (fun q h => by cases h) (hj1 0 u trivial)
        · refine go_iconst (pc := 44) (v := 1) dX3_hungry_44 (by decide) ?_
          refine go_iload_n (pc := 45) (j := 3) (i := 3) dX3_hungry_45 rfl rfl ?_
          refine go_ishl (pc := 46) dX3_hungry_46 ?_
          refine go_goto (pc := 47) (tgt := 51) dX3_hungry_47 (by decide) ?_
          exact go_weak (A' := [(0, .ref x0), (1, .int x1), (3, .int x3)]) (B' := []) ⟨rfl, rfl, rfl, trivial⟩ rfl (fun q h => by cases h) (hj1 (1 <<< (x3 &&& 31)) u trivial)
end
def f_X3_hungry (self : Nat) (p0 : Int32) (u : zM) : Option (Int32 × zM) := bd (f_X3_in (Int32.toInt64 p0) 1 99 u) fun v1 u1 => if v1 = 0 then (some ((-1), u1)) else (f_X3_hungry_L18 self p0 zFu 0 0 u1)
set_option maxHeartbeats 4000000 in
theorem ct_X3_hungry (self : Nat) (p0 : Int32) (t_self : kd self = 3) : zMet yX3_hungry cX3_hungry 4 (some .int) 2 25 rvI (obT) [.ref self, .int p0] (f_X3_hungry self p0) := by
  refine zMet_of (A := [(0, .ref self), (1, .int p0)]) (B := []) (ini := false) RX3 rfl (by decide +kernel) (fun h => by cases h) (by simp [lg_sl, Value.category]) (by simp [lv_args, Value.category]) rfl (by simp [lv_args, Value.category]) fun u => ?_
  unfold f_X3_hungry
  refine go_iload_n (pc := 0) (j := 1) (i := 1) dX3_hungry_0 rfl rfl ?_
  refine go_i2l (pc := 1) dX3_hungry_1 ?_
  refine go_lconst (pc := 2) (v := 1) dX3_hungry_2 (by decide) ?_
  refine go_ldc2 (pc := 3) (v := 99) dX3_hungry_3 q1832 ?_
  refine go_callSI (pc := 6) (ct_X3_in (Int32.toInt64 p0) 1 99) lk_X3_274 rfl ⟨by decide, by decide⟩ (Nat.le_of_ble_eq_true rfl) dX3_hungry_6 rfl fun v1 u1 => ?_
  refine go_if_ne (pc := 9) (tgt := 14) dX3_hungry_9 (by decide) (fun h1 => ?_) (fun h1 => ?_)
  · refine go_iconst (pc := 12) (v := (-1)) dX3_hungry_12 (by decide) ?_
    exact go_ireturn (pc := 13) rfl dX3_hungry_13
  · refine go_iconst (pc := 14) (v := 0) dX3_hungry_14 (by decide) ?_
    refine go_istore_n (pc := 15) (j := 2) (i := 2) (A' := [(0, .ref self), (1, .int p0), (2, .int 0)]) rfl (by decide) rfl rfl rfl dX3_hungry_15 ?_
    refine go_iconst (pc := 16) (v := 0) dX3_hungry_16 (by decide) ?_
    refine go_istore_n (pc := 17) (j := 3) (i := 3) (A' := [(0, .ref self), (1, .int p0), (2, .int 0), (3, .int 0)]) rfl (by decide) rfl rfl rfl dX3_hungry_17 ?_
    exact go_weak (A' := [(0, .ref self), (1, .int p0), (2, .int 0), (3, .int 0)]) (B' := []) ⟨rfl, rfl, rfl, rfl, trivial⟩ rfl (fun q h => by cases h) (g_X3_hungry_L18 self p0 t_self zFu 0 0 u1)

def f_X3_keeps (self : Nat) (p0 : Int32) (p1 : Int32) (u : zM) : Option (Int32 × zM) := bd (f_X3_isHouse self p0 u) fun v1 u1 => if v1 = 0 then (some ((-1), u1)) else (bd (f_X3_in (Int32.toInt64 p1) 1 99 u1) fun v2 u2 => if v2 = 0 then (some ((-1), u2)) else (if (mI u2 self 0) = 156 then (some ((-1), u2)) else (lt (mR u2 self 20) fun r1 => oB r1 fun n1 => ix p0 (mN u2 n1) (lt (mR u2 self 21) fun r2 => oB r2 fun n2 => ix p0 (mN u2 n2) (lt (mR u2 self 3) fun r3 => oB r3 fun n3 => ix (mI u2 n1 (xN p0)) (mN u2 n3) (lt (mR u2 n3 (xN (mI u2 n1 (xN p0)))) fun r4 => bd (f_X3_season (mI u2 self 0) u2) fun v3 u3 => oB r4 fun n4 => ix v3 (mN u3 n4) (lt (mR u3 self 22) fun r5 => oB r5 fun n5 => ix p0 (mN u3 n5) (lt (mR u3 self 26) fun r6 => oB r6 fun n6 => ix p0 (mN u3 n6) (gzL (Int32.toInt64 ((mI u3 n6 (xN p0)) + 20)) (lt (mR u3 self 7) fun r7 => oB r7 fun n7 => ix (mI u2 n1 (xN p0)) (mN u3 n7) (lt (mR u3 self 26) fun r8 => oB r8 fun n8 => ix p0 (mN u3 n8) (lt (fun (z1 : Int64) (u4 : zM) => lt (mR u4 self 23) fun r9 => oB r9 fun n9 => ix p0 (mN u4 n9) (lt (mR u4 self 26) fun r10 => oB r10 fun n10 => ix p0 (mN u4 n10) (lt (mR u4 self 22) fun r11 => oB r11 fun n11 => ix p0 (mN u4 n11) (bd (f_X3_strengthOf self p0 (mI u4 n11 (xN p0)) u4) fun v4 u5 => bd (f_X3_asksOf_2 self p0 (mI u4 n9 (xN p0)) (mI u4 n10 (xN p0)) v4 (Int64.toInt32 z1) 0 u5) fun v5 u6 => bd (f_X3_tells self 1 u6) fun v6 u7 => bd (f_X3_least v6 u7) fun v7 u8 => lt (mR u8 self 24) fun r12 => oB r12 fun n12 => ix p0 (mN u8 n12) (gz ((mI u8 n12 (xN p0)) * p1) (some ((v7 / ((mI u8 n12 (xN p0)) * p1)), u8))))))) fun j1 => if (lg_cmp ((((Int32.toInt64 (mI u2 n2 (xN p0))) * (Int32.toInt64 (mI u3 n4 (xN v3)))) * (Int32.toInt64 (10 + (mI u3 n5 (xN p0))))) / (Int32.toInt64 ((mI u3 n6 (xN p0)) + 20))) ((Int32.toInt64 (mI u3 n7 (xN (mI u2 n1 (xN p0))))) * (Int32.toInt64 (mI u3 n8 (xN p0))))) ≤ 0 then (j1 ((((Int32.toInt64 (mI u2 n2 (xN p0))) * (Int32.toInt64 (mI u3 n4 (xN v3)))) * (Int32.toInt64 (10 + (mI u3 n5 (xN p0))))) / (Int32.toInt64 ((mI u3 n6 (xN p0)) + 20))) u3) else (lt (mR u3 self 7) fun r13 => oB r13 fun n13 => ix (mI u2 n1 (xN p0)) (mN u3 n13) (lt (mR u3 self 26) fun r14 => oB r14 fun n14 => ix p0 (mN u3 n14) (j1 ((Int32.toInt64 (mI u3 n13 (xN (mI u2 n1 (xN p0))))) * (Int32.toInt64 (mI u3 n14 (xN p0)))) u3)))))))))))))))
set_option maxHeartbeats 4000000 in
theorem ct_X3_keeps (self : Nat) (p0 : Int32) (p1 : Int32) (t_self : kd self = 3) : zMet yX3_keeps cX3_keeps 6 (some .int) 5 88 rvI (obT) [.ref self, .int p0, .int p1] (f_X3_keeps self p0 p1) := by
  refine zMet_of (A := [(0, .ref self), (1, .int p0), (2, .int p1)]) (B := []) (ini := false) RX3 rfl (by decide +kernel) (fun h => by cases h) (by simp [lg_sl, Value.category]) (by simp [lv_args, Value.category]) rfl (by simp [lv_args, Value.category]) fun u => ?_
  unfold f_X3_keeps
  refine go_aload_n (pc := 0) (j := 0) (i := 0) dX3_keeps_0 rfl rfl ?_
  refine go_iload_n (pc := 1) (j := 1) (i := 1) dX3_keeps_1 rfl rfl ?_
  refine go_callVI (pc := 2) (ci := 3) (ct_X3_isHouse self p0 t_self) lk_X3_297 rfl rfl rfl (by decide) t_self ⟨by decide, by decide⟩ (Nat.le_of_ble_eq_true rfl) dX3_keeps_2 rfl fun v1 u1 => ?_
  refine go_if_eq (pc := 5) (tgt := 30) dX3_keeps_5 (by decide) (fun h1 => ?_) (fun h1 => ?_)
  · refine go_iconst (pc := 30) (v := (-1)) dX3_keeps_30 (by decide) ?_
    exact go_ireturn (pc := 31) rfl dX3_keeps_31
  · refine go_iload_n (pc := 8) (j := 2) (i := 2) dX3_keeps_8 rfl rfl ?_
    refine go_i2l (pc := 9) dX3_keeps_9 ?_
    refine go_lconst (pc := 10) (v := 1) dX3_keeps_10 (by decide) ?_
    refine go_ldc2 (pc := 11) (v := 99) dX3_keeps_11 q1832 ?_
    refine go_callSI (pc := 14) (ct_X3_in (Int32.toInt64 p1) 1 99) lk_X3_274 rfl ⟨by decide, by decide⟩ (Nat.le_of_ble_eq_true rfl) dX3_keeps_14 rfl fun v2 u2 => ?_
    refine go_if_eq (pc := 17) (tgt := 30) dX3_keeps_17 (by decide) (fun h2 => ?_) (fun h2 => ?_)
    · refine go_iconst (pc := 30) (v := (-1)) dX3_keeps_30 (by decide) ?_
      exact go_ireturn (pc := 31) rfl dX3_keeps_31
    · refine go_aload_n (pc := 20) (j := 0) (i := 0) dX3_keeps_20 rfl rfl ?_
      refine go_getI (pc := 21) (n := self) (ci := 3) (k := 0) fa_X3_286_3 t_self rfl dX3_keeps_21 ?_
      refine go_sipush (pc := 24) (v := 156) dX3_keeps_24 (by decide) ?_
      refine go_icmp_ne (pc := 27) (tgt := 32) dX3_keeps_27 (by decide) (fun h3 => ?_) (fun h3 => ?_)
      · refine go_iconst (pc := 30) (v := (-1)) dX3_keeps_30 (by decide) ?_
        exact go_ireturn (pc := 31) rfl dX3_keeps_31
      · refine go_aload_n (pc := 32) (j := 0) (i := 0) dX3_keeps_32 rfl rfl ?_
        refine go_getR (pc := 33) (n := self) (ci := 3) (k := 20) (t := 13) fa_X3_63_3 t_self rfl dX3_keeps_33 fun r1 t_r1 => ?_
        refine go_iload_n (pc := 36) (j := 1) (i := 1) dX3_keeps_36 rfl rfl ?_
        refine go_oB fun n1 e_n1 => ?_
        have t_n1 := t_r1 n1 e_n1
        subst e_n1
        refine go_iald (pc := 37) t_n1 dX3_keeps_37 ?_
        refine go_istore_n (pc := 38) (j := 3) (i := 3) (A' := [(0, .ref self), (1, .int p0), (2, .int p1), (3, .int (mI u2 n1 (xN p0)))]) rfl (by decide) rfl rfl rfl dX3_keeps_38 ?_
        refine go_aload_n (pc := 39) (j := 0) (i := 0) dX3_keeps_39 rfl rfl ?_
        refine go_getR (pc := 40) (n := self) (ci := 3) (k := 21) (t := 13) fa_X3_66_3 t_self rfl dX3_keeps_40 fun r2 t_r2 => ?_
        refine go_iload_n (pc := 43) (j := 1) (i := 1) dX3_keeps_43 rfl rfl ?_
        refine go_oB fun n2 e_n2 => ?_
        have t_n2 := t_r2 n2 e_n2
        subst e_n2
        refine go_iald (pc := 44) t_n2 dX3_keeps_44 ?_
        refine go_i2l (pc := 45) dX3_keeps_45 ?_
        refine go_aload_n (pc := 46) (j := 0) (i := 0) dX3_keeps_46 rfl rfl ?_
        refine go_getR (pc := 47) (n := self) (ci := 3) (k := 3) (t := 23) fa_X3_11_3 t_self rfl dX3_keeps_47 fun r3 t_r3 => ?_
        refine go_iload_n (pc := 50) (j := 3) (i := 3) dX3_keeps_50 rfl rfl ?_
        refine go_oB fun n3 e_n3 => ?_
        have t_n3 := t_r3 n3 e_n3
        subst e_n3
        refine go_aald (pc := 51) (n := n3) (ci := 23) (t := 13) (by decide) (by decide) t_n3 rfl dX3_keeps_51 fun r4 t_r4 => ?_
        refine go_aload_n (pc := 52) (j := 0) (i := 0) dX3_keeps_52 rfl rfl ?_
        refine go_getI (pc := 53) (n := self) (ci := 3) (k := 0) fa_X3_286_3 t_self rfl dX3_keeps_53 ?_
        refine go_callSI (pc := 56) (ct_X3_season (mI u2 self 0)) lk_X3_436 rfl ⟨by decide, by decide⟩ (by simp [cat_rf, cat_int, cat_ref, cat_long]) dX3_keeps_56 rfl fun v3 u3 => ?_
        refine go_oB fun n4 e_n4 => ?_
        have t_n4 := t_r4 n4 e_n4
        subst e_n4
        refine go_iald (pc := 59) t_n4 dX3_keeps_59 ?_
        refine go_i2l (pc := 60) dX3_keeps_60 ?_
        refine go_lmul (pc := 61) dX3_keeps_61  ?_
        refine go_bipush (pc := 62) (v := 10) dX3_keeps_62 (by decide) ?_
        refine go_aload_n (pc := 64) (j := 0) (i := 0) dX3_keeps_64 rfl rfl ?_
        refine go_getR (pc := 65) (n := self) (ci := 3) (k := 22) (t := 13) fa_X3_69_3 t_self rfl dX3_keeps_65 fun r5 t_r5 => ?_
        refine go_iload_n (pc := 68) (j := 1) (i := 1) dX3_keeps_68 rfl rfl ?_
        refine go_oB fun n5 e_n5 => ?_
        have t_n5 := t_r5 n5 e_n5
        subst e_n5
        refine go_iald (pc := 69) t_n5 dX3_keeps_69 ?_
        refine go_iadd (pc := 70) dX3_keeps_70 ?_
        refine go_i2l (pc := 71) dX3_keeps_71 ?_
        refine go_lmul (pc := 72) dX3_keeps_72  ?_
        refine go_aload_n (pc := 73) (j := 0) (i := 0) dX3_keeps_73 rfl rfl ?_
        refine go_getR (pc := 74) (n := self) (ci := 3) (k := 26) (t := 13) fa_X3_81_3 t_self rfl dX3_keeps_74 fun r6 t_r6 => ?_
        refine go_iload_n (pc := 77) (j := 1) (i := 1) dX3_keeps_77 rfl rfl ?_
        refine go_oB fun n6 e_n6 => ?_
        have t_n6 := t_r6 n6 e_n6
        subst e_n6
        refine go_iald (pc := 78) t_n6 dX3_keeps_78 ?_
        refine go_bipush (pc := 79) (v := 20) dX3_keeps_79 (by decide) ?_
        refine go_iadd (pc := 81) dX3_keeps_81 ?_
        refine go_i2l (pc := 82) dX3_keeps_82 ?_
        refine go_gzL fun h4 => ?_
        refine go_ldiv (pc := 83) dX3_keeps_83 h4 ?_
        refine go_lstore (pc := 84) (i := 4) (A' := [(0, .ref self), (1, .int p0), (2, .int p1), (3, .int (mI u2 n1 (xN p0)))]) (B' := [(4, ((((Int32.toInt64 (mI u2 n2 (xN p0))) * (Int32.toInt64 (mI u3 n4 (xN v3)))) * (Int32.toInt64 (10 + (mI u3 n5 (xN p0))))) / (Int32.toInt64 ((mI u3 n6 (xN p0)) + 20))))]) (by decide) (by simp) rfl (by simp) dX3_keeps_84 ?_
        refine go_lload (pc := 86) (i := 4) dX3_keeps_86 0 rfl ?_
        refine go_aload_n (pc := 88) (j := 0) (i := 0) dX3_keeps_88 rfl rfl ?_
        refine go_getR (pc := 89) (n := self) (ci := 3) (k := 7) (t := 13) fa_X3_24_3 t_self rfl dX3_keeps_89 fun r7 t_r7 => ?_
        refine go_iload_n (pc := 92) (j := 3) (i := 3) dX3_keeps_92 rfl rfl ?_
        refine go_oB fun n7 e_n7 => ?_
        have t_n7 := t_r7 n7 e_n7
        subst e_n7
        refine go_iald (pc := 93) t_n7 dX3_keeps_93 ?_
        refine go_i2l (pc := 94) dX3_keeps_94 ?_
        refine go_aload_n (pc := 95) (j := 0) (i := 0) dX3_keeps_95 rfl rfl ?_
        refine go_getR (pc := 96) (n := self) (ci := 3) (k := 26) (t := 13) fa_X3_81_3 t_self rfl dX3_keeps_96 fun r8 t_r8 => ?_
        refine go_iload_n (pc := 99) (j := 1) (i := 1) dX3_keeps_99 rfl rfl ?_
        refine go_oB fun n8 e_n8 => ?_
        have t_n8 := t_r8 n8 e_n8
        subst e_n8
        refine go_iald (pc := 100) t_n8 dX3_keeps_100 ?_
        refine go_i2l (pc := 101) dX3_keeps_101 ?_
        refine go_lmul (pc := 102) dX3_keeps_102  ?_
        refine go_lcmp (pc := 103) dX3_keeps_103 ?_
        refine go_join1 (pcx := 124) (α1 := Int64) (fun z1 => [(0, .ref self), (1, .int p0), (2, .int p1)]) (fun z1 => [(4, z1)]) (fun z1 => []) (fun z1 => True) (fun z1 u4 _ => ?_) (fun j1 hj1 => ?_)
        · refine go_aload_n (pc := 124) (j := 0) (i := 0) dX3_keeps_124 rfl rfl ?_
          refine go_iload_n (pc := 125) (j := 1) (i := 1) dX3_keeps_125 rfl rfl ?_
          refine go_aload_n (pc := 126) (j := 0) (i := 0) dX3_keeps_126 rfl rfl ?_
          refine go_getR (pc := 127) (n := self) (ci := 3) (k := 23) (t := 13) fa_X3_72_3 t_self rfl dX3_keeps_127 fun r9 t_r9 => ?_
          refine go_iload_n (pc := 130) (j := 1) (i := 1) dX3_keeps_130 rfl rfl ?_
          refine go_oB fun n9 e_n9 => ?_
          have t_n9 := t_r9 n9 e_n9
          subst e_n9
          refine go_iald (pc := 131) t_n9 dX3_keeps_131 ?_
          refine go_aload_n (pc := 132) (j := 0) (i := 0) dX3_keeps_132 rfl rfl ?_
          refine go_getR (pc := 133) (n := self) (ci := 3) (k := 26) (t := 13) fa_X3_81_3 t_self rfl dX3_keeps_133 fun r10 t_r10 => ?_
          refine go_iload_n (pc := 136) (j := 1) (i := 1) dX3_keeps_136 rfl rfl ?_
          refine go_oB fun n10 e_n10 => ?_
          have t_n10 := t_r10 n10 e_n10
          subst e_n10
          refine go_iald (pc := 137) t_n10 dX3_keeps_137 ?_
          refine go_aload_n (pc := 138) (j := 0) (i := 0) dX3_keeps_138 rfl rfl ?_
          refine go_iload_n (pc := 139) (j := 1) (i := 1) dX3_keeps_139 rfl rfl ?_
          refine go_aload_n (pc := 140) (j := 0) (i := 0) dX3_keeps_140 rfl rfl ?_
          refine go_getR (pc := 141) (n := self) (ci := 3) (k := 22) (t := 13) fa_X3_69_3 t_self rfl dX3_keeps_141 fun r11 t_r11 => ?_
          refine go_iload_n (pc := 144) (j := 1) (i := 1) dX3_keeps_144 rfl rfl ?_
          refine go_oB fun n11 e_n11 => ?_
          have t_n11 := t_r11 n11 e_n11
          subst e_n11
          refine go_iald (pc := 145) t_n11 dX3_keeps_145 ?_
          refine go_callVI (pc := 146) (ci := 3) (ct_X3_strengthOf self p0 (mI u4 n11 (xN p0)) t_self) lk_X3_463 rfl rfl rfl (by decide) t_self ⟨by decide, by decide⟩ (Nat.le_of_ble_eq_true rfl) dX3_keeps_146 rfl fun v4 u5 => ?_
          refine go_lload (pc := 149) (i := 4) dX3_keeps_149 0 rfl ?_
          refine go_l2i (pc := 151) dX3_keeps_151 ?_
          refine go_iconst (pc := 152) (v := 0) dX3_keeps_152 (by decide) ?_
          refine go_callVV (pc := 153) (ci := 3) (ct_X3_asksOf_2 self p0 (mI u4 n9 (xN p0)) (mI u4 n10 (xN p0)) v4 (Int64.toInt32 z1) 0 t_self) lk_X3_475 rfl rfl rfl (by decide) t_self ⟨by decide, by decide⟩ (Nat.le_of_ble_eq_true rfl) dX3_keeps_153 rfl fun v5 u6 => ?_
          refine go_aload_n (pc := 156) (j := 0) (i := 0) dX3_keeps_156 rfl rfl ?_
          refine go_iconst (pc := 157) (v := 1) dX3_keeps_157 (by decide) ?_
          refine go_callVI (pc := 158) (ci := 3) (ct_X3_tells self 1 t_self) lk_X3_445 rfl rfl rfl (by decide) t_self ⟨by decide, by decide⟩ (Nat.le_of_ble_eq_true rfl) dX3_keeps_158 rfl fun v6 u7 => ?_
          refine go_callSI (pc := 161) (ct_X3_least v6) lk_X3_448 rfl ⟨by decide, by decide⟩ (Nat.le_of_ble_eq_true rfl) dX3_keeps_161 rfl fun v7 u8 => ?_
          refine go_aload_n (pc := 164) (j := 0) (i := 0) dX3_keeps_164 rfl rfl ?_
          refine go_getR (pc := 165) (n := self) (ci := 3) (k := 24) (t := 13) fa_X3_75_3 t_self rfl dX3_keeps_165 fun r12 t_r12 => ?_
          refine go_iload_n (pc := 168) (j := 1) (i := 1) dX3_keeps_168 rfl rfl ?_
          refine go_oB fun n12 e_n12 => ?_
          have t_n12 := t_r12 n12 e_n12
          subst e_n12
          refine go_iald (pc := 169) t_n12 dX3_keeps_169 ?_
          refine go_iload_n (pc := 170) (j := 2) (i := 2) dX3_keeps_170 rfl rfl ?_
          refine go_imul (pc := 171) dX3_keeps_171 ?_
          refine go_gz fun h5 => ?_
          refine go_idiv (pc := 172) dX3_keeps_172 h5 ?_
          exact go_ireturn (pc := 173) rfl dX3_keeps_173
        · refine go_if_le (pc := 104) (tgt := 124) dX3_keeps_104 (by decide) (fun h6 => ?_) (fun h6 => ?_)
          · exact go_weak (A' := [(0, .ref self), (1, .int p0), (2, .int p1)]) (B' := [(4, ((((Int32.toInt64 (mI u2 n2 (xN p0))) * (Int32.toInt64 (mI u3 n4 (xN v3)))) * (Int32.toInt64 (10 + (mI u3 n5 (xN p0))))) / (Int32.toInt64 ((mI u3 n6 (xN p0)) + 20))))]) ⟨rfl, rfl, rfl, trivial⟩ rfl (by simp) (hj1 ((((Int32.toInt64 (mI u2 n2 (xN p0))) * (Int32.toInt64 (mI u3 n4 (xN v3)))) * (Int32.toInt64 (10 + (mI u3 n5 (xN p0))))) / (Int32.toInt64 ((mI u3 n6 (xN p0)) + 20))) u3 trivial)
          · refine go_aload_n (pc := 107) (j := 0) (i := 0) dX3_keeps_107 rfl rfl ?_
            refine go_getR (pc := 108) (n := self) (ci := 3) (k := 7) (t := 13) fa_X3_24_3 t_self rfl dX3_keeps_108 fun r13 t_r13 => ?_
            refine go_iload_n (pc := 111) (j := 3) (i := 3) dX3_keeps_111 rfl rfl ?_
            refine go_oB fun n13 e_n13 => ?_
            have t_n13 := t_r13 n13 e_n13
            subst e_n13
            refine go_iald (pc := 112) t_n13 dX3_keeps_112 ?_
            refine go_i2l (pc := 113) dX3_keeps_113 ?_
            refine go_aload_n (pc := 114) (j := 0) (i := 0) dX3_keeps_114 rfl rfl ?_
            refine go_getR (pc := 115) (n := self) (ci := 3) (k := 26) (t := 13) fa_X3_81_3 t_self rfl dX3_keeps_115 fun r14 t_r14 => ?_
            refine go_iload_n (pc := 118) (j := 1) (i := 1) dX3_keeps_118 rfl rfl ?_
            refine go_oB fun n14 e_n14 => ?_
            have t_n14 := t_r14 n14 e_n14
            subst e_n14
            refine go_iald (pc := 119) t_n14 dX3_keeps_119 ?_
            refine go_i2l (pc := 120) dX3_keeps_120 ?_
            refine go_lmul (pc := 121) dX3_keeps_121  ?_
            refine go_lstore (pc := 122) (i := 4) (A' := [(0, .ref self), (1, .int p0), (2, .int p1), (3, .int (mI u2 n1 (xN p0)))]) (B' := [(4, ((Int32.toInt64 (mI u3 n13 (xN (mI u2 n1 (xN p0))))) * (Int32.toInt64 (mI u3 n14 (xN p0)))))]) (by decide) (by simp) rfl (by simp) dX3_keeps_122 ?_
            exact go_weak (A' := [(0, .ref self), (1, .int p0), (2, .int p1)]) (B' := [(4, ((Int32.toInt64 (mI u3 n13 (xN (mI u2 n1 (xN p0))))) * (Int32.toInt64 (mI u3 n14 (xN p0)))))]) ⟨rfl, rfl, rfl, trivial⟩ rfl (by simp) (hj1 ((Int32.toInt64 (mI u3 n13 (xN (mI u2 n1 (xN p0))))) * (Int32.toInt64 (mI u3 n14 (xN p0)))) u3 trivial)

def f_X3_told (self : Nat) (p0 : Int32) (p1 : Int32) (u : zM) : Option (Int32 × zM) := bd (f_X3_in (Int32.toInt64 p0) 0 (Int32.toInt64 ((mI u self 0) - 1)) u) fun v1 u1 => if v1 = 0 then (some ((-1), u1)) else (bd (f_X3_in (Int32.toInt64 p1) 0 5 u1) fun v2 u2 => if v2 = 0 then (some ((-1), u2)) else (lt (mR u2 self 91) fun r1 => oB r1 fun n1 => ix p0 (mN u2 n1) (lt (mR u2 n1 (xN p0)) fun r2 => oB r2 fun n2 => ix p1 (mN u2 n2) (some ((mI u2 n2 (xN p1)), u2)))))
set_option maxHeartbeats 4000000 in
theorem ct_X3_told (self : Nat) (p0 : Int32) (p1 : Int32) (t_self : kd self = 3) : zMet yX3_told cX3_told 3 (some .int) 2 25 rvI (obT) [.ref self, .int p0, .int p1] (f_X3_told self p0 p1) := by
  refine zMet_of (A := [(0, .ref self), (1, .int p0), (2, .int p1)]) (B := []) (ini := false) RX3 rfl (by decide +kernel) (fun h => by cases h) (by simp [lg_sl, Value.category]) (by simp [lv_args, Value.category]) rfl (by simp [lv_args, Value.category]) fun u => ?_
  unfold f_X3_told
  refine go_iload_n (pc := 0) (j := 1) (i := 1) dX3_told_0 rfl rfl ?_
  refine go_i2l (pc := 1) dX3_told_1 ?_
  refine go_lconst (pc := 2) (v := 0) dX3_told_2 (by decide) ?_
  refine go_aload_n (pc := 3) (j := 0) (i := 0) dX3_told_3 rfl rfl ?_
  refine go_getI (pc := 4) (n := self) (ci := 3) (k := 0) fa_X3_286_3 t_self rfl dX3_told_4 ?_
  refine go_iconst (pc := 7) (v := 1) dX3_told_7 (by decide) ?_
  refine go_isub (pc := 8) dX3_told_8 ?_
  refine go_i2l (pc := 9) dX3_told_9 ?_
  refine go_callSI (pc := 10) (ct_X3_in (Int32.toInt64 p0) 0 (Int32.toInt64 ((mI u self 0) - 1))) lk_X3_274 rfl ⟨by decide, by decide⟩ (Nat.le_of_ble_eq_true rfl) dX3_told_10 rfl fun v1 u1 => ?_
  refine go_if_eq (pc := 13) (tgt := 39) dX3_told_13 (by decide) (fun h1 => ?_) (fun h1 => ?_)
  · refine go_iconst (pc := 39) (v := (-1)) dX3_told_39 (by decide) ?_
    exact go_ireturn (pc := 40) rfl dX3_told_40
  · refine go_iload_n (pc := 16) (j := 2) (i := 2) dX3_told_16 rfl rfl ?_
    refine go_i2l (pc := 17) dX3_told_17 ?_
    refine go_lconst (pc := 18) (v := 0) dX3_told_18 (by decide) ?_
    refine go_ldc2 (pc := 19) (v := 5) dX3_told_19 q1944 ?_
    refine go_callSI (pc := 22) (ct_X3_in (Int32.toInt64 p1) 0 5) lk_X3_274 rfl ⟨by decide, by decide⟩ (Nat.le_of_ble_eq_true rfl) dX3_told_22 rfl fun v2 u2 => ?_
    refine go_if_eq (pc := 25) (tgt := 39) dX3_told_25 (by decide) (fun h2 => ?_) (fun h2 => ?_)
    · refine go_iconst (pc := 39) (v := (-1)) dX3_told_39 (by decide) ?_
      exact go_ireturn (pc := 40) rfl dX3_told_40
    · refine go_aload_n (pc := 28) (j := 0) (i := 0) dX3_told_28 rfl rfl ?_
      refine go_getR (pc := 29) (n := self) (ci := 3) (k := 91) (t := 23) fa_X3_255_3 t_self rfl dX3_told_29 fun r1 t_r1 => ?_
      refine go_iload_n (pc := 32) (j := 1) (i := 1) dX3_told_32 rfl rfl ?_
      refine go_oB fun n1 e_n1 => ?_
      have t_n1 := t_r1 n1 e_n1
      subst e_n1
      refine go_aald (pc := 33) (n := n1) (ci := 23) (t := 13) (by decide) (by decide) t_n1 rfl dX3_told_33 fun r2 t_r2 => ?_
      refine go_iload_n (pc := 34) (j := 2) (i := 2) dX3_told_34 rfl rfl ?_
      refine go_oB fun n2 e_n2 => ?_
      have t_n2 := t_r2 n2 e_n2
      subst e_n2
      refine go_iald (pc := 35) t_n2 dX3_told_35 ?_
      refine go_goto (pc := 36) (tgt := 40) dX3_told_36 (by decide) ?_
      exact go_ireturn (pc := 40) rfl dX3_told_40

def f_X3_check_L39 (x0 : Nat) (x1 : Int32) (x2 : Int32) (x3 : Int32) (x4 : Nat) (k88 : zM → Option (Int32 × zM)) : Nat → Int32 → zM → Option (Int32 × zM)
  | 0, _, _ => none
  | n + 1, x5, u => if 6 ≤ x5 then (k88 u) else (lt (fun (z1 : Int64) (u4 : zM) => ix x5 (mN u4 x4) (lt (sL u4 x4 (xN x5) z1) fun u5 => f_X3_check_L39 x0 x1 x2 x3 x4 k88 n (x5 + 1) u5)) fun j1 => if x5 = x2 then (lt (mR u x0 91) fun r1 => oB r1 fun n2 => ix x1 (mN u n2) (lt (mR u n2 (xN x1)) fun r2 => oB r2 fun n3 => ix x5 (mN u n3) (j1 (Int32.toInt64 ((mI u n3 (xN x5)) ^^^ x3)) u))) else (lt (mR u x0 91) fun r3 => oB r3 fun n4 => ix x1 (mN u n4) (lt (mR u n4 (xN x1)) fun r4 => oB r4 fun n5 => ix x5 (mN u n5) (j1 (Int32.toInt64 (mI u n5 (xN x5))) u))))
section
variable {c0 s0 : Nat} {tbv : List ExceptionTableEntry}
set_option maxHeartbeats 4000000 in
theorem g_X3_check_L39 (x0 : Nat) (x1 : Int32) (x2 : Int32) (x3 : Int32) (x4 : Nat) (k88 : zM → Option (Int32 × zM)) (t_x0 : kd x0 = 3) (t_x4 : kd x4 = 16) (hk88 : ∀ (u : zM), Go RX3 cX3_check 6 (some .int) false 2 25 [] (obT) (zQ rvI) c0 s0 88 [(0, .ref x0), (1, .int x1), (4, .ref x4)] [] [] u (k88 u)) : ∀ (n : Nat) (x5 : Int32) (u : zM), Go RX3 cX3_check 6 (some .int) false 2 25 [] (obT) (zQ rvI) c0 s0 39 [(0, .ref x0), (1, .int x1), (2, .int x2), (3, .int x3), (4, .ref x4), (5, .int x5)] [] [] u (f_X3_check_L39 x0 x1 x2 x3 x4 k88 n x5 u) := by
  intro n
  induction n with
  | zero => intros; exact go_none
  | succ n ih =>
    intro x5 u
    unfold f_X3_check_L39
    refine go_iload (pc := 39) (i := 5) dX3_check_39 rfl ?_
    refine go_bipush (pc := 41) (v := 6) dX3_check_41 (by decide) ?_
    refine go_icmp_ge (pc := 43) (tgt := 88) dX3_check_43 (by decide) (fun h3 => ?_) (fun h3 => ?_)
    · exact go_weak (A' := [(0, .ref x0), (1, .int x1), (4, .ref x4)]) (B' := []) ⟨rfl, rfl, rfl, trivial⟩ rfl (fun q h => by cases h) (hk88 u)
    · refine go_aload (pc := 46) (i := 4) dX3_check_46 rfl ?_
      refine go_iload (pc := 48) (i := 5) dX3_check_48 rfl ?_
      refine go_iload (pc := 50) (i := 5) dX3_check_50 rfl ?_
      refine go_iload_n (pc := 52) (j := 2) (i := 2) dX3_check_52 rfl rfl ?_
      refine go_join1 (pcx := 81) (α1 := Int64) (fun z1 => [(0, .ref x0), (1, .int x1), (2, .int x2), (3, .int x3), (4, .ref x4), (5, .int x5)]) (fun z1 => []) (fun z1 => [.long z1, .int x5, .ref x4]) (fun z1 => True) (fun z1 u4 _ => ?_) (fun j1 hj1 => ?_)
      · refine go_last (pc := 81) t_x4 dX3_check_81 fun u5 => ?_
        refine go_iinc (pc := 82) (i := 5) (w := 1) (A' := [(0, .ref x0), (1, .int x1), (2, .int x2), (3, .int x3), (4, .ref x4), (5, .int (x5 + 1))]) rfl (by decide) (by decide) rfl rfl rfl dX3_check_82 ?_
        refine go_goto (pc := 85) (tgt := 39) dX3_check_85 (by decide) ?_
        exact go_weak (A' := [(0, .ref x0), (1, .int x1), (2, .int x2), (3, .int x3), (4, .ref x4), (5, .int (x5 + 1))]) (B' := []) ⟨rfl, rfl, rfl, rfl, rfl, rfl, trivial⟩ rfl (fun q h => by cases h) (ih (x5 + 1) u5)
      · refine go_icmp_ne (pc := 53) (tgt := 71) dX3_check_53 (by decide) (fun h4 => ?_) (fun h4 => ?_)
        · refine go_aload_n (pc := 56) (j := 0) (i := 0) dX3_check_56 rfl rfl ?_
          refine go_getR (pc := 57) (n := x0) (ci := 3) (k := 91) (t := 23) fa_X3_255_3 t_x0 rfl dX3_check_57 fun r1 t_r1 => ?_
          refine go_iload_n (pc := 60) (j := 1) (i := 1) dX3_check_60 rfl rfl ?_
          refine go_oB fun n2 e_n2 => ?_
          have t_n2 := t_r1 n2 e_n2
          subst e_n2
          refine go_aald (pc := 61) (n := n2) (ci := 23) (t := 13) (by decide) (by decide) t_n2 rfl dX3_check_61 fun r2 t_r2 => ?_
          refine go_iload (pc := 62) (i := 5) dX3_check_62 rfl ?_
          refine go_oB fun n3 e_n3 => ?_
          have t_n3 := t_r2 n3 e_n3
          subst e_n3
          refine go_iald (pc := 64) t_n3 dX3_check_64 ?_
          refine go_iload_n (pc := 65) (j := 3) (i := 3) dX3_check_65 rfl rfl ?_
          refine go_ixor (pc := 66) dX3_check_66 ?_
          refine go_i2l (pc := 67) dX3_check_67 ?_
          refine go_goto (pc := 68) (tgt := 81) dX3_check_68 (by decide) ?_
          exact go_weak (A' := [(0, .ref x0), (1, .int x1), (2, .int x2), (3, .int x3), (4, .ref x4), (5, .int x5)]) (B' := []) ⟨rfl, rfl, rfl, rfl, rfl, rfl, trivial⟩ rfl (fun q h => by cases h) (hj1 (Int32.toInt64 ((mI u n3 (xN x5)) ^^^ x3)) u trivial)
        · refine go_aload_n (pc := 71) (j := 0) (i := 0) dX3_check_71 rfl rfl ?_
          refine go_getR (pc := 72) (n := x0) (ci := 3) (k := 91) (t := 23) fa_X3_255_3 t_x0 rfl dX3_check_72 fun r3 t_r3 => ?_
          refine go_iload_n (pc := 75) (j := 1) (i := 1) dX3_check_75 rfl rfl ?_
          refine go_oB fun n4 e_n4 => ?_
          have t_n4 := t_r3 n4 e_n4
          subst e_n4
          refine go_aald (pc := 76) (n := n4) (ci := 23) (t := 13) (by decide) (by decide) t_n4 rfl dX3_check_76 fun r4 t_r4 => ?_
          refine go_iload (pc := 77) (i := 5) dX3_check_77 rfl ?_
          refine go_oB fun n5 e_n5 => ?_
          have t_n5 := t_r4 n5 e_n5
          subst e_n5
          refine go_iald (pc := 79) t_n5 dX3_check_79 ?_
          refine go_i2l (pc := 80) dX3_check_80 ?_
          exact go_weak (A' := [(0, .ref x0), (1, .int x1), (2, .int x2), (3, .int x3), (4, .ref x4), (5, .int x5)]) (B' := []) ⟨rfl, rfl, rfl, rfl, rfl, rfl, trivial⟩ rfl (fun q h => by cases h) (hj1 (Int32.toInt64 (mI u n5 (xN x5))) u trivial)
end
def f_X3_check (self : Nat) (p0 : Int32) (p1 : Int32) (p2 : Int32) (u : zM) : Option (Int32 × zM) := bd (f_X3_in (Int32.toInt64 p0) 0 (Int32.toInt64 ((mI u self 0) - 1)) u) fun v1 u1 => if v1 = 0 then (some ((-1), u1)) else (bd (f_X3_in (Int32.toInt64 p1) 0 5 u1) fun v2 u2 => if v2 = 0 then (some ((-1), u2)) else (gs 6 (lt (nx u2 48) fun n1 => lt (mkc u2 48 (xN 6) (xN 6)) fun u3 => f_X3_check_L39 self p0 p1 p2 n1 (fun u6 => ix 2 (mN u6 n1) (ix 3 (mN u6 n1) (ix 4 (mN u6 n1) (ix 5 (mN u6 n1) (if (lg_cmp (((mL u6 n1 (xN 2)) + (mL u6 n1 (xN 3))) + (mL u6 n1 (xN 4))) (mL u6 n1 (xN 5))) = 0 then (ix 5 (mN u6 n1) (if p0 = 0 then (ix 1 (mN u6 n1) (if (lg_cmp (mL u6 n1 (xN 5)) ((Int32.toInt64 0) + (mL u6 n1 (xN 1)))) = 0 then (some (0, u6)) else (some (2, u6)))) else (lt (mR u6 self 91) fun r5 => oB r5 fun n6 => ix (p0 - 1) (mN u6 n6) (lt (mR u6 n6 (xN (p0 - 1))) fun r6 => oB r6 fun n7 => ix 5 (mN u6 n7) (ix 1 (mN u6 n1) (if (lg_cmp (mL u6 n1 (xN 5)) ((Int32.toInt64 (mI u6 n7 (xN 5))) + (mL u6 n1 (xN 1)))) = 0 then (some (0, u6)) else (some (2, u6)))))))) else (some (1, u6))))))) zFu 0 u3)))
set_option maxHeartbeats 4000000 in
theorem ct_X3_check (self : Nat) (p0 : Int32) (p1 : Int32) (p2 : Int32) (t_self : kd self = 3) : zMet yX3_check cX3_check 6 (some .int) 2 25 rvI (obT) [.ref self, .int p0, .int p1, .int p2] (f_X3_check self p0 p1 p2) := by
  refine zMet_of (A := [(0, .ref self), (1, .int p0), (2, .int p1), (3, .int p2)]) (B := []) (ini := false) RX3 rfl (by decide +kernel) (fun h => by cases h) (by simp [lg_sl, Value.category]) (by simp [lv_args, Value.category]) rfl (by simp [lv_args, Value.category]) fun u => ?_
  unfold f_X3_check
  refine go_iload_n (pc := 0) (j := 1) (i := 1) dX3_check_0 rfl rfl ?_
  refine go_i2l (pc := 1) dX3_check_1 ?_
  refine go_lconst (pc := 2) (v := 0) dX3_check_2 (by decide) ?_
  refine go_aload_n (pc := 3) (j := 0) (i := 0) dX3_check_3 rfl rfl ?_
  refine go_getI (pc := 4) (n := self) (ci := 3) (k := 0) fa_X3_286_3 t_self rfl dX3_check_4 ?_
  refine go_iconst (pc := 7) (v := 1) dX3_check_7 (by decide) ?_
  refine go_isub (pc := 8) dX3_check_8 ?_
  refine go_i2l (pc := 9) dX3_check_9 ?_
  refine go_callSI (pc := 10) (ct_X3_in (Int32.toInt64 p0) 0 (Int32.toInt64 ((mI u self 0) - 1))) lk_X3_274 rfl ⟨by decide, by decide⟩ (Nat.le_of_ble_eq_true rfl) dX3_check_10 rfl fun v1 u1 => ?_
  refine go_if_eq (pc := 13) (tgt := 28) dX3_check_13 (by decide) (fun h1 => ?_) (fun h1 => ?_)
  · refine go_iconst (pc := 28) (v := (-1)) dX3_check_28 (by decide) ?_
    exact go_ireturn (pc := 29) rfl dX3_check_29
  · refine go_iload_n (pc := 16) (j := 2) (i := 2) dX3_check_16 rfl rfl ?_
    refine go_i2l (pc := 17) dX3_check_17 ?_
    refine go_lconst (pc := 18) (v := 0) dX3_check_18 (by decide) ?_
    refine go_ldc2 (pc := 19) (v := 5) dX3_check_19 q1944 ?_
    refine go_callSI (pc := 22) (ct_X3_in (Int32.toInt64 p1) 0 5) lk_X3_274 rfl ⟨by decide, by decide⟩ (Nat.le_of_ble_eq_true rfl) dX3_check_22 rfl fun v2 u2 => ?_
    refine go_if_ne (pc := 25) (tgt := 30) dX3_check_25 (by decide) (fun h2 => ?_) (fun h2 => ?_)
    · refine go_iconst (pc := 28) (v := (-1)) dX3_check_28 (by decide) ?_
      exact go_ireturn (pc := 29) rfl dX3_check_29
    · refine go_bipush (pc := 30) (v := 6) dX3_check_30 (by decide) ?_
      refine go_newa_long (pc := 32) (σ := 48) (by decide) (by decide) dX3_check_32 fun n1 u3 t_n1 => ?_
      refine go_astore (pc := 34) (i := 4) (A' := [(0, .ref self), (1, .int p0), (2, .int p1), (3, .int p2), (4, .ref n1)]) (by decide) rfl rfl rfl dX3_check_34 ?_
      refine go_iconst (pc := 36) (v := 0) dX3_check_36 (by decide) ?_
      refine go_istore (pc := 37) (i := 5) (A' := [(0, .ref self), (1, .int p0), (2, .int p1), (3, .int p2), (4, .ref n1), (5, .int 0)]) (by decide) rfl rfl rfl dX3_check_37 ?_
      refine go_weak (A' := [(0, .ref self), (1, .int p0), (2, .int p1), (3, .int p2), (4, .ref n1), (5, .int 0)]) (B' := []) ⟨rfl, rfl, rfl, rfl, rfl, rfl, trivial⟩ rfl (fun q h => by cases h) (g_X3_check_L39 self p0 p1 p2 n1 _ t_self t_n1 ?_ zFu 0 u3)
      · intro u6
        refine go_aload (pc := 88) (i := 4) dX3_check_88 rfl ?_
        refine go_iconst (pc := 90) (v := 2) dX3_check_90 (by decide) ?_
        refine go_lald (pc := 91) t_n1 dX3_check_91 ?_
        refine go_aload (pc := 92) (i := 4) dX3_check_92 rfl ?_
        refine go_iconst (pc := 94) (v := 3) dX3_check_94 (by decide) ?_
        refine go_lald (pc := 95) t_n1 dX3_check_95 ?_
        refine go_ladd (pc := 96) dX3_check_96  ?_
        refine go_aload (pc := 97) (i := 4) dX3_check_97 rfl ?_
        refine go_iconst (pc := 99) (v := 4) dX3_check_99 (by decide) ?_
        refine go_lald (pc := 100) t_n1 dX3_check_100 ?_
        refine go_ladd (pc := 101) dX3_check_101  ?_
        refine go_aload (pc := 102) (i := 4) dX3_check_102 rfl ?_
        refine go_iconst (pc := 104) (v := 5) dX3_check_104 (by decide) ?_
        refine go_lald (pc := 105) t_n1 dX3_check_105 ?_
        refine go_lcmp (pc := 106) dX3_check_106 ?_
        refine go_if_eq (pc := 107) (tgt := 112) dX3_check_107 (by decide) (fun h5 => ?_) (fun h5 => ?_)
        · refine go_aload (pc := 112) (i := 4) dX3_check_112 rfl ?_
          refine go_iconst (pc := 114) (v := 5) dX3_check_114 (by decide) ?_
          refine go_lald (pc := 115) t_n1 dX3_check_115 ?_
          refine go_iload_n (pc := 116) (j := 1) (i := 1) dX3_check_116 rfl rfl ?_
          refine go_if_ne (pc := 117) (tgt := 124) dX3_check_117 (by decide) (fun h6 => ?_) (fun h6 => ?_)
          · refine go_iconst (pc := 120) (v := 0) dX3_check_120 (by decide) ?_
            refine go_goto (pc := 121) (tgt := 134) dX3_check_121 (by decide) ?_
            refine go_i2l (pc := 134) dX3_check_134 ?_
            refine go_aload (pc := 135) (i := 4) dX3_check_135 rfl ?_
            refine go_iconst (pc := 137) (v := 1) dX3_check_137 (by decide) ?_
            refine go_lald (pc := 138) t_n1 dX3_check_138 ?_
            refine go_ladd (pc := 139) dX3_check_139  ?_
            refine go_lcmp (pc := 140) dX3_check_140 ?_
            refine go_if_eq (pc := 141) (tgt := 148) dX3_check_141 (by decide) (fun h7 => ?_) (fun h7 => ?_)
            · refine go_iconst (pc := 148) (v := 0) dX3_check_148 (by decide) ?_
              exact go_ireturn (pc := 149) rfl dX3_check_149
            · refine go_iconst (pc := 144) (v := 2) dX3_check_144 (by decide) ?_
              refine go_goto (pc := 145) (tgt := 149) dX3_check_145 (by decide) ?_
              exact go_ireturn (pc := 149) rfl dX3_check_149
          · refine go_aload_n (pc := 124) (j := 0) (i := 0) dX3_check_124 rfl rfl ?_
            refine go_getR (pc := 125) (n := self) (ci := 3) (k := 91) (t := 23) fa_X3_255_3 t_self rfl dX3_check_125 fun r5 t_r5 => ?_
            refine go_iload_n (pc := 128) (j := 1) (i := 1) dX3_check_128 rfl rfl ?_
            refine go_iconst (pc := 129) (v := 1) dX3_check_129 (by decide) ?_
            refine go_isub (pc := 130) dX3_check_130 ?_
            refine go_oB fun n6 e_n6 => ?_
            have t_n6 := t_r5 n6 e_n6
            subst e_n6
            refine go_aald (pc := 131) (n := n6) (ci := 23) (t := 13) (by decide) (by decide) t_n6 rfl dX3_check_131 fun r6 t_r6 => ?_
            refine go_iconst (pc := 132) (v := 5) dX3_check_132 (by decide) ?_
            refine go_oB fun n7 e_n7 => ?_
            have t_n7 := t_r6 n7 e_n7
            subst e_n7
            refine go_iald (pc := 133) t_n7 dX3_check_133 ?_
            refine go_i2l (pc := 134) dX3_check_134 ?_
            refine go_aload (pc := 135) (i := 4) dX3_check_135 rfl ?_
            refine go_iconst (pc := 137) (v := 1) dX3_check_137 (by decide) ?_
            refine go_lald (pc := 138) t_n1 dX3_check_138 ?_
            refine go_ladd (pc := 139) dX3_check_139  ?_
            refine go_lcmp (pc := 140) dX3_check_140 ?_
            refine go_if_eq (pc := 141) (tgt := 148) dX3_check_141 (by decide) (fun h8 => ?_) (fun h8 => ?_)
            · refine go_iconst (pc := 148) (v := 0) dX3_check_148 (by decide) ?_
              exact go_ireturn (pc := 149) rfl dX3_check_149
            · refine go_iconst (pc := 144) (v := 2) dX3_check_144 (by decide) ?_
              refine go_goto (pc := 145) (tgt := 149) dX3_check_145 (by decide) ?_
              exact go_ireturn (pc := 149) rfl dX3_check_149
        · refine go_iconst (pc := 110) (v := 1) dX3_check_110 (by decide) ?_
          exact go_ireturn (pc := 111) rfl dX3_check_111

def f_X3_is (self : Nat) (p0 : Int32) (p1 : Int32) (u : zM) : Option (Int32 × zM) := bd (f_X3_isVillage self p0 u) fun v1 u1 => if v1 = 0 then (some ((-1), u1)) else (if p1 = 0 then (lt (mR u1 self 7) fun r1 => oB r1 fun n1 => ix p0 (mN u1 n1) (some ((mI u1 n1 (xN p0)), u1))) else (if p1 = 1 then (lt (mR u1 self 8) fun r2 => oB r2 fun n2 => ix p0 (mN u1 n2) (some ((mI u1 n2 (xN p0)), u1))) else (if p1 = 2 then (lt (mR u1 self 9) fun r3 => oB r3 fun n3 => ix p0 (mN u1 n3) (some ((mI u1 n3 (xN p0)), u1))) else (if p1 = 3 then (lt (mR u1 self 10) fun r4 => oB r4 fun n4 => ix p0 (mN u1 n4) (some ((mI u1 n4 (xN p0)), u1))) else (if p1 = 4 then (lt (mR u1 self 11) fun r5 => oB r5 fun n5 => ix p0 (mN u1 n5) (some ((mI u1 n5 (xN p0)), u1))) else (if p1 = 5 then (lt (mR u1 self 12) fun r6 => oB r6 fun n6 => ix p0 (mN u1 n6) (some ((mI u1 n6 (xN p0)), u1))) else (if p1 = 6 then (lt (mR u1 self 13) fun r7 => oB r7 fun n7 => ix p0 (mN u1 n7) (some ((mI u1 n7 (xN p0)), u1))) else (if p1 = 7 then (lt (mR u1 self 14) fun r8 => oB r8 fun n8 => ix p0 (mN u1 n8) (some ((mI u1 n8 (xN p0)), u1))) else (if p1 = 8 then (lt (mR u1 self 15) fun r9 => oB r9 fun n9 => ix p0 (mN u1 n9) (some ((mI u1 n9 (xN p0)), u1))) else (if p1 = 9 then (lt (mR u1 self 17) fun r10 => oB r10 fun n10 => ix p0 (mN u1 n10) (some ((mI u1 n10 (xN p0)), u1))) else (if p1 = 10 then (lt (mR u1 self 18) fun r11 => oB r11 fun n11 => ix p0 (mN u1 n11) (some ((mI u1 n11 (xN p0)), u1))) else (some ((-1), u1)))))))))))))
set_option maxHeartbeats 4000000 in
theorem ct_X3_is (self : Nat) (p0 : Int32) (p1 : Int32) (t_self : kd self = 3) : zMet yX3_is cX3_is 3 (some .int) 3 46 rvI (obT) [.ref self, .int p0, .int p1] (f_X3_is self p0 p1) := by
  refine zMet_of (A := [(0, .ref self), (1, .int p0), (2, .int p1)]) (B := []) (ini := false) RX3 rfl (by decide +kernel) (fun h => by cases h) (by simp [lg_sl, Value.category]) (by simp [lv_args, Value.category]) rfl (by simp [lv_args, Value.category]) fun u => ?_
  unfold f_X3_is
  refine go_aload_n (pc := 0) (j := 0) (i := 0) dX3_is_0 rfl rfl ?_
  refine go_iload_n (pc := 1) (j := 1) (i := 1) dX3_is_1 rfl rfl ?_
  refine go_callVI (pc := 2) (ci := 3) (ct_X3_isVillage self p0 t_self) lk_X3_289 rfl rfl rfl (by decide) t_self ⟨by decide, by decide⟩ (Nat.le_of_ble_eq_true rfl) dX3_is_2 rfl fun v1 u1 => ?_
  refine go_if_ne (pc := 5) (tgt := 10) dX3_is_5 (by decide) (fun h1 => ?_) (fun h1 => ?_)
  · refine go_iconst (pc := 8) (v := (-1)) dX3_is_8 (by decide) ?_
    exact go_ireturn (pc := 9) rfl dX3_is_9
  · refine go_iload_n (pc := 10) (j := 2) (i := 2) dX3_is_10 rfl rfl ?_
    refine go_if (fun h2 => ?_) (fun h2 => ?_)
    · refine go_tableIn (pc := 11) (tgt := 68) 0 h2 dX3_is_11 (by decide) (by decide) rfl (by decide) ?_
      refine go_aload_n (pc := 68) (j := 0) (i := 0) dX3_is_68 rfl rfl ?_
      refine go_getR (pc := 69) (n := self) (ci := 3) (k := 7) (t := 13) fa_X3_24_3 t_self rfl dX3_is_69 fun r1 t_r1 => ?_
      refine go_iload_n (pc := 72) (j := 1) (i := 1) dX3_is_72 rfl rfl ?_
      refine go_oB fun n1 e_n1 => ?_
      have t_n1 := t_r1 n1 e_n1
      subst e_n1
      refine go_iald (pc := 73) t_n1 dX3_is_73 ?_
      exact go_ireturn (pc := 74) rfl dX3_is_74
    refine go_if (fun h3 => ?_) (fun h3 => ?_)
    · refine go_tableIn (pc := 11) (tgt := 75) 1 h3 dX3_is_11 (by decide) (by decide) rfl (by decide) ?_
      refine go_aload_n (pc := 75) (j := 0) (i := 0) dX3_is_75 rfl rfl ?_
      refine go_getR (pc := 76) (n := self) (ci := 3) (k := 8) (t := 13) fa_X3_27_3 t_self rfl dX3_is_76 fun r2 t_r2 => ?_
      refine go_iload_n (pc := 79) (j := 1) (i := 1) dX3_is_79 rfl rfl ?_
      refine go_oB fun n2 e_n2 => ?_
      have t_n2 := t_r2 n2 e_n2
      subst e_n2
      refine go_iald (pc := 80) t_n2 dX3_is_80 ?_
      exact go_ireturn (pc := 81) rfl dX3_is_81
    refine go_if (fun h4 => ?_) (fun h4 => ?_)
    · refine go_tableIn (pc := 11) (tgt := 82) 2 h4 dX3_is_11 (by decide) (by decide) rfl (by decide) ?_
      refine go_aload_n (pc := 82) (j := 0) (i := 0) dX3_is_82 rfl rfl ?_
      refine go_getR (pc := 83) (n := self) (ci := 3) (k := 9) (t := 13) fa_X3_30_3 t_self rfl dX3_is_83 fun r3 t_r3 => ?_
      refine go_iload_n (pc := 86) (j := 1) (i := 1) dX3_is_86 rfl rfl ?_
      refine go_oB fun n3 e_n3 => ?_
      have t_n3 := t_r3 n3 e_n3
      subst e_n3
      refine go_iald (pc := 87) t_n3 dX3_is_87 ?_
      exact go_ireturn (pc := 88) rfl dX3_is_88
    refine go_if (fun h5 => ?_) (fun h5 => ?_)
    · refine go_tableIn (pc := 11) (tgt := 89) 3 h5 dX3_is_11 (by decide) (by decide) rfl (by decide) ?_
      refine go_aload_n (pc := 89) (j := 0) (i := 0) dX3_is_89 rfl rfl ?_
      refine go_getR (pc := 90) (n := self) (ci := 3) (k := 10) (t := 13) fa_X3_33_3 t_self rfl dX3_is_90 fun r4 t_r4 => ?_
      refine go_iload_n (pc := 93) (j := 1) (i := 1) dX3_is_93 rfl rfl ?_
      refine go_oB fun n4 e_n4 => ?_
      have t_n4 := t_r4 n4 e_n4
      subst e_n4
      refine go_iald (pc := 94) t_n4 dX3_is_94 ?_
      exact go_ireturn (pc := 95) rfl dX3_is_95
    refine go_if (fun h6 => ?_) (fun h6 => ?_)
    · refine go_tableIn (pc := 11) (tgt := 96) 4 h6 dX3_is_11 (by decide) (by decide) rfl (by decide) ?_
      refine go_aload_n (pc := 96) (j := 0) (i := 0) dX3_is_96 rfl rfl ?_
      refine go_getR (pc := 97) (n := self) (ci := 3) (k := 11) (t := 13) fa_X3_36_3 t_self rfl dX3_is_97 fun r5 t_r5 => ?_
      refine go_iload_n (pc := 100) (j := 1) (i := 1) dX3_is_100 rfl rfl ?_
      refine go_oB fun n5 e_n5 => ?_
      have t_n5 := t_r5 n5 e_n5
      subst e_n5
      refine go_iald (pc := 101) t_n5 dX3_is_101 ?_
      exact go_ireturn (pc := 102) rfl dX3_is_102
    refine go_if (fun h7 => ?_) (fun h7 => ?_)
    · refine go_tableIn (pc := 11) (tgt := 103) 5 h7 dX3_is_11 (by decide) (by decide) rfl (by decide) ?_
      refine go_aload_n (pc := 103) (j := 0) (i := 0) dX3_is_103 rfl rfl ?_
      refine go_getR (pc := 104) (n := self) (ci := 3) (k := 12) (t := 13) fa_X3_39_3 t_self rfl dX3_is_104 fun r6 t_r6 => ?_
      refine go_iload_n (pc := 107) (j := 1) (i := 1) dX3_is_107 rfl rfl ?_
      refine go_oB fun n6 e_n6 => ?_
      have t_n6 := t_r6 n6 e_n6
      subst e_n6
      refine go_iald (pc := 108) t_n6 dX3_is_108 ?_
      exact go_ireturn (pc := 109) rfl dX3_is_109
    refine go_if (fun h8 => ?_) (fun h8 => ?_)
    · refine go_tableIn (pc := 11) (tgt := 110) 6 h8 dX3_is_11 (by decide) (by decide) rfl (by decide) ?_
      refine go_aload_n (pc := 110) (j := 0) (i := 0) dX3_is_110 rfl rfl ?_
      refine go_getR (pc := 111) (n := self) (ci := 3) (k := 13) (t := 13) fa_X3_42_3 t_self rfl dX3_is_111 fun r7 t_r7 => ?_
      refine go_iload_n (pc := 114) (j := 1) (i := 1) dX3_is_114 rfl rfl ?_
      refine go_oB fun n7 e_n7 => ?_
      have t_n7 := t_r7 n7 e_n7
      subst e_n7
      refine go_iald (pc := 115) t_n7 dX3_is_115 ?_
      exact go_ireturn (pc := 116) rfl dX3_is_116
    refine go_if (fun h9 => ?_) (fun h9 => ?_)
    · refine go_tableIn (pc := 11) (tgt := 117) 7 h9 dX3_is_11 (by decide) (by decide) rfl (by decide) ?_
      refine go_aload_n (pc := 117) (j := 0) (i := 0) dX3_is_117 rfl rfl ?_
      refine go_getR (pc := 118) (n := self) (ci := 3) (k := 14) (t := 13) fa_X3_45_3 t_self rfl dX3_is_118 fun r8 t_r8 => ?_
      refine go_iload_n (pc := 121) (j := 1) (i := 1) dX3_is_121 rfl rfl ?_
      refine go_oB fun n8 e_n8 => ?_
      have t_n8 := t_r8 n8 e_n8
      subst e_n8
      refine go_iald (pc := 122) t_n8 dX3_is_122 ?_
      exact go_ireturn (pc := 123) rfl dX3_is_123
    refine go_if (fun h10 => ?_) (fun h10 => ?_)
    · refine go_tableIn (pc := 11) (tgt := 124) 8 h10 dX3_is_11 (by decide) (by decide) rfl (by decide) ?_
      refine go_aload_n (pc := 124) (j := 0) (i := 0) dX3_is_124 rfl rfl ?_
      refine go_getR (pc := 125) (n := self) (ci := 3) (k := 15) (t := 13) fa_X3_48_3 t_self rfl dX3_is_125 fun r9 t_r9 => ?_
      refine go_iload_n (pc := 128) (j := 1) (i := 1) dX3_is_128 rfl rfl ?_
      refine go_oB fun n9 e_n9 => ?_
      have t_n9 := t_r9 n9 e_n9
      subst e_n9
      refine go_iald (pc := 129) t_n9 dX3_is_129 ?_
      exact go_ireturn (pc := 130) rfl dX3_is_130
    refine go_if (fun h11 => ?_) (fun h11 => ?_)
    · refine go_tableIn (pc := 11) (tgt := 131) 9 h11 dX3_is_11 (by decide) (by decide) rfl (by decide) ?_
      refine go_aload_n (pc := 131) (j := 0) (i := 0) dX3_is_131 rfl rfl ?_
      refine go_getR (pc := 132) (n := self) (ci := 3) (k := 17) (t := 13) fa_X3_54_3 t_self rfl dX3_is_132 fun r10 t_r10 => ?_
      refine go_iload_n (pc := 135) (j := 1) (i := 1) dX3_is_135 rfl rfl ?_
      refine go_oB fun n10 e_n10 => ?_
      have t_n10 := t_r10 n10 e_n10
      subst e_n10
      refine go_iald (pc := 136) t_n10 dX3_is_136 ?_
      exact go_ireturn (pc := 137) rfl dX3_is_137
    refine go_if (fun h12 => ?_) (fun h12 => ?_)
    · refine go_tableIn (pc := 11) (tgt := 138) 10 h12 dX3_is_11 (by decide) (by decide) rfl (by decide) ?_
      refine go_aload_n (pc := 138) (j := 0) (i := 0) dX3_is_138 rfl rfl ?_
      refine go_getR (pc := 139) (n := self) (ci := 3) (k := 18) (t := 13) fa_X3_57_3 t_self rfl dX3_is_139 fun r11 t_r11 => ?_
      refine go_iload_n (pc := 142) (j := 1) (i := 1) dX3_is_142 rfl rfl ?_
      refine go_oB fun n11 e_n11 => ?_
      have t_n11 := t_r11 n11 e_n11
      subst e_n11
      refine go_iald (pc := 143) t_n11 dX3_is_143 ?_
      exact go_ireturn (pc := 144) rfl dX3_is_144
    refine go_tableD (pc := 11) (x := p1) (tgt := 145) dX3_is_11 (by decide) (fun a b => ?_) ?_
    · rcases (show Int32.toInt p1 = 0 ∨ Int32.toInt p1 = 1 ∨ Int32.toInt p1 = 2 ∨ Int32.toInt p1 = 3 ∨ Int32.toInt p1 = 4 ∨ Int32.toInt p1 = 5 ∨ Int32.toInt p1 = 6 ∨ Int32.toInt p1 = 7 ∨ Int32.toInt p1 = 8 ∨ Int32.toInt p1 = 9 ∨ Int32.toInt p1 = 10 by omega) with e | e | e | e | e | e | e | e | e | e | e
      · exact absurd (sw_eq (v := 0) (e.trans (by decide))) h2
      · exact absurd (sw_eq (v := 1) (e.trans (by decide))) h3
      · exact absurd (sw_eq (v := 2) (e.trans (by decide))) h4
      · exact absurd (sw_eq (v := 3) (e.trans (by decide))) h5
      · exact absurd (sw_eq (v := 4) (e.trans (by decide))) h6
      · exact absurd (sw_eq (v := 5) (e.trans (by decide))) h7
      · exact absurd (sw_eq (v := 6) (e.trans (by decide))) h8
      · exact absurd (sw_eq (v := 7) (e.trans (by decide))) h9
      · exact absurd (sw_eq (v := 8) (e.trans (by decide))) h10
      · exact absurd (sw_eq (v := 9) (e.trans (by decide))) h11
      · exact absurd (sw_eq (v := 10) (e.trans (by decide))) h12
    · refine go_iconst (pc := 145) (v := (-1)) dX3_is_145 (by decide) ?_
      exact go_ireturn (pc := 146) rfl dX3_is_146

def f_X3_has (self : Nat) (p0 : Int32) (p1 : Int32) (u : zM) : Option (Int32 × zM) := bd (f_X3_isHouse self p0 u) fun v1 u1 => if v1 = 0 then (some ((-2147483648), u1)) else (if p1 = 0 then (lt (mR u1 self 20) fun r1 => oB r1 fun n1 => ix p0 (mN u1 n1) (some ((mI u1 n1 (xN p0)), u1))) else (if p1 = 1 then (lt (mR u1 self 21) fun r2 => oB r2 fun n2 => ix p0 (mN u1 n2) (some ((mI u1 n2 (xN p0)), u1))) else (if p1 = 2 then (lt (mR u1 self 22) fun r3 => oB r3 fun n3 => ix p0 (mN u1 n3) (some ((mI u1 n3 (xN p0)), u1))) else (if p1 = 3 then (lt (mR u1 self 23) fun r4 => oB r4 fun n4 => ix p0 (mN u1 n4) (some ((mI u1 n4 (xN p0)), u1))) else (if p1 = 4 then (lt (mR u1 self 24) fun r5 => oB r5 fun n5 => ix p0 (mN u1 n5) (some ((mI u1 n5 (xN p0)), u1))) else (if p1 = 5 then (lt (mR u1 self 25) fun r6 => oB r6 fun n6 => ix p0 (mN u1 n6) (some ((mI u1 n6 (xN p0)), u1))) else (if p1 = 6 then (lt (mR u1 self 26) fun r7 => oB r7 fun n7 => ix p0 (mN u1 n7) (some ((mI u1 n7 (xN p0)), u1))) else (if p1 = 7 then (lt (mR u1 self 27) fun r8 => oB r8 fun n8 => ix p0 (mN u1 n8) (some ((mI u1 n8 (xN p0)), u1))) else (if p1 = 8 then (lt (mR u1 self 28) fun r9 => oB r9 fun n9 => ix p0 (mN u1 n9) (some ((mI u1 n9 (xN p0)), u1))) else (if p1 = 9 then (lt (mR u1 self 29) fun r10 => oB r10 fun n10 => ix p0 (mN u1 n10) (some ((mI u1 n10 (xN p0)), u1))) else (if p1 = 10 then (bd (f_X3_hasLoom self p0 u1) fun v2 u2 => if v2 = 0 then (some ((-1), u2)) else (lt (mR u2 self 33) fun r11 => oB r11 fun n11 => ix p0 (mN u2 n11) (some ((mI u2 n11 (xN p0)), u2)))) else (some ((-2147483648), u1)))))))))))))
set_option maxHeartbeats 4000000 in
theorem ct_X3_has (self : Nat) (p0 : Int32) (p1 : Int32) (t_self : kd self = 3) : zMet yX3_has cX3_has 3 (some .int) 3 46 rvI (obT) [.ref self, .int p0, .int p1] (f_X3_has self p0 p1) := by
  refine zMet_of (A := [(0, .ref self), (1, .int p0), (2, .int p1)]) (B := []) (ini := false) RX3 rfl (by decide +kernel) (fun h => by cases h) (by simp [lg_sl, Value.category]) (by simp [lv_args, Value.category]) rfl (by simp [lv_args, Value.category]) fun u => ?_
  unfold f_X3_has
  refine go_aload_n (pc := 0) (j := 0) (i := 0) dX3_has_0 rfl rfl ?_
  refine go_iload_n (pc := 1) (j := 1) (i := 1) dX3_has_1 rfl rfl ?_
  refine go_callVI (pc := 2) (ci := 3) (ct_X3_isHouse self p0 t_self) lk_X3_297 rfl rfl rfl (by decide) t_self ⟨by decide, by decide⟩ (Nat.le_of_ble_eq_true rfl) dX3_has_2 rfl fun v1 u1 => ?_
  refine go_if_ne (pc := 5) (tgt := 12) dX3_has_5 (by decide) (fun h1 => ?_) (fun h1 => ?_)
  · refine go_ldcw (pc := 8) (v := (-2147483648)) dX3_has_8 q1595 ?_
    exact go_ireturn (pc := 11) rfl dX3_has_11
  · refine go_iload_n (pc := 12) (j := 2) (i := 2) dX3_has_12 rfl rfl ?_
    refine go_if (fun h2 => ?_) (fun h2 => ?_)
    · refine go_tableIn (pc := 13) (tgt := 72) 0 h2 dX3_has_13 (by decide) (by decide) rfl (by decide) ?_
      refine go_aload_n (pc := 72) (j := 0) (i := 0) dX3_has_72 rfl rfl ?_
      refine go_getR (pc := 73) (n := self) (ci := 3) (k := 20) (t := 13) fa_X3_63_3 t_self rfl dX3_has_73 fun r1 t_r1 => ?_
      refine go_iload_n (pc := 76) (j := 1) (i := 1) dX3_has_76 rfl rfl ?_
      refine go_oB fun n1 e_n1 => ?_
      have t_n1 := t_r1 n1 e_n1
      subst e_n1
      refine go_iald (pc := 77) t_n1 dX3_has_77 ?_
      exact go_ireturn (pc := 78) rfl dX3_has_78
    refine go_if (fun h3 => ?_) (fun h3 => ?_)
    · refine go_tableIn (pc := 13) (tgt := 79) 1 h3 dX3_has_13 (by decide) (by decide) rfl (by decide) ?_
      refine go_aload_n (pc := 79) (j := 0) (i := 0) dX3_has_79 rfl rfl ?_
      refine go_getR (pc := 80) (n := self) (ci := 3) (k := 21) (t := 13) fa_X3_66_3 t_self rfl dX3_has_80 fun r2 t_r2 => ?_
      refine go_iload_n (pc := 83) (j := 1) (i := 1) dX3_has_83 rfl rfl ?_
      refine go_oB fun n2 e_n2 => ?_
      have t_n2 := t_r2 n2 e_n2
      subst e_n2
      refine go_iald (pc := 84) t_n2 dX3_has_84 ?_
      exact go_ireturn (pc := 85) rfl dX3_has_85
    refine go_if (fun h4 => ?_) (fun h4 => ?_)
    · refine go_tableIn (pc := 13) (tgt := 86) 2 h4 dX3_has_13 (by decide) (by decide) rfl (by decide) ?_
      refine go_aload_n (pc := 86) (j := 0) (i := 0) dX3_has_86 rfl rfl ?_
      refine go_getR (pc := 87) (n := self) (ci := 3) (k := 22) (t := 13) fa_X3_69_3 t_self rfl dX3_has_87 fun r3 t_r3 => ?_
      refine go_iload_n (pc := 90) (j := 1) (i := 1) dX3_has_90 rfl rfl ?_
      refine go_oB fun n3 e_n3 => ?_
      have t_n3 := t_r3 n3 e_n3
      subst e_n3
      refine go_iald (pc := 91) t_n3 dX3_has_91 ?_
      exact go_ireturn (pc := 92) rfl dX3_has_92
    refine go_if (fun h5 => ?_) (fun h5 => ?_)
    · refine go_tableIn (pc := 13) (tgt := 93) 3 h5 dX3_has_13 (by decide) (by decide) rfl (by decide) ?_
      refine go_aload_n (pc := 93) (j := 0) (i := 0) dX3_has_93 rfl rfl ?_
      refine go_getR (pc := 94) (n := self) (ci := 3) (k := 23) (t := 13) fa_X3_72_3 t_self rfl dX3_has_94 fun r4 t_r4 => ?_
      refine go_iload_n (pc := 97) (j := 1) (i := 1) dX3_has_97 rfl rfl ?_
      refine go_oB fun n4 e_n4 => ?_
      have t_n4 := t_r4 n4 e_n4
      subst e_n4
      refine go_iald (pc := 98) t_n4 dX3_has_98 ?_
      exact go_ireturn (pc := 99) rfl dX3_has_99
    refine go_if (fun h6 => ?_) (fun h6 => ?_)
    · refine go_tableIn (pc := 13) (tgt := 100) 4 h6 dX3_has_13 (by decide) (by decide) rfl (by decide) ?_
      refine go_aload_n (pc := 100) (j := 0) (i := 0) dX3_has_100 rfl rfl ?_
      refine go_getR (pc := 101) (n := self) (ci := 3) (k := 24) (t := 13) fa_X3_75_3 t_self rfl dX3_has_101 fun r5 t_r5 => ?_
      refine go_iload_n (pc := 104) (j := 1) (i := 1) dX3_has_104 rfl rfl ?_
      refine go_oB fun n5 e_n5 => ?_
      have t_n5 := t_r5 n5 e_n5
      subst e_n5
      refine go_iald (pc := 105) t_n5 dX3_has_105 ?_
      exact go_ireturn (pc := 106) rfl dX3_has_106
    refine go_if (fun h7 => ?_) (fun h7 => ?_)
    · refine go_tableIn (pc := 13) (tgt := 107) 5 h7 dX3_has_13 (by decide) (by decide) rfl (by decide) ?_
      refine go_aload_n (pc := 107) (j := 0) (i := 0) dX3_has_107 rfl rfl ?_
      refine go_getR (pc := 108) (n := self) (ci := 3) (k := 25) (t := 13) fa_X3_78_3 t_self rfl dX3_has_108 fun r6 t_r6 => ?_
      refine go_iload_n (pc := 111) (j := 1) (i := 1) dX3_has_111 rfl rfl ?_
      refine go_oB fun n6 e_n6 => ?_
      have t_n6 := t_r6 n6 e_n6
      subst e_n6
      refine go_iald (pc := 112) t_n6 dX3_has_112 ?_
      exact go_ireturn (pc := 113) rfl dX3_has_113
    refine go_if (fun h8 => ?_) (fun h8 => ?_)
    · refine go_tableIn (pc := 13) (tgt := 114) 6 h8 dX3_has_13 (by decide) (by decide) rfl (by decide) ?_
      refine go_aload_n (pc := 114) (j := 0) (i := 0) dX3_has_114 rfl rfl ?_
      refine go_getR (pc := 115) (n := self) (ci := 3) (k := 26) (t := 13) fa_X3_81_3 t_self rfl dX3_has_115 fun r7 t_r7 => ?_
      refine go_iload_n (pc := 118) (j := 1) (i := 1) dX3_has_118 rfl rfl ?_
      refine go_oB fun n7 e_n7 => ?_
      have t_n7 := t_r7 n7 e_n7
      subst e_n7
      refine go_iald (pc := 119) t_n7 dX3_has_119 ?_
      exact go_ireturn (pc := 120) rfl dX3_has_120
    refine go_if (fun h9 => ?_) (fun h9 => ?_)
    · refine go_tableIn (pc := 13) (tgt := 121) 7 h9 dX3_has_13 (by decide) (by decide) rfl (by decide) ?_
      refine go_aload_n (pc := 121) (j := 0) (i := 0) dX3_has_121 rfl rfl ?_
      refine go_getR (pc := 122) (n := self) (ci := 3) (k := 27) (t := 13) fa_X3_84_3 t_self rfl dX3_has_122 fun r8 t_r8 => ?_
      refine go_iload_n (pc := 125) (j := 1) (i := 1) dX3_has_125 rfl rfl ?_
      refine go_oB fun n8 e_n8 => ?_
      have t_n8 := t_r8 n8 e_n8
      subst e_n8
      refine go_iald (pc := 126) t_n8 dX3_has_126 ?_
      exact go_ireturn (pc := 127) rfl dX3_has_127
    refine go_if (fun h10 => ?_) (fun h10 => ?_)
    · refine go_tableIn (pc := 13) (tgt := 128) 8 h10 dX3_has_13 (by decide) (by decide) rfl (by decide) ?_
      refine go_aload_n (pc := 128) (j := 0) (i := 0) dX3_has_128 rfl rfl ?_
      refine go_getR (pc := 129) (n := self) (ci := 3) (k := 28) (t := 13) fa_X3_87_3 t_self rfl dX3_has_129 fun r9 t_r9 => ?_
      refine go_iload_n (pc := 132) (j := 1) (i := 1) dX3_has_132 rfl rfl ?_
      refine go_oB fun n9 e_n9 => ?_
      have t_n9 := t_r9 n9 e_n9
      subst e_n9
      refine go_iald (pc := 133) t_n9 dX3_has_133 ?_
      exact go_ireturn (pc := 134) rfl dX3_has_134
    refine go_if (fun h11 => ?_) (fun h11 => ?_)
    · refine go_tableIn (pc := 13) (tgt := 135) 9 h11 dX3_has_13 (by decide) (by decide) rfl (by decide) ?_
      refine go_aload_n (pc := 135) (j := 0) (i := 0) dX3_has_135 rfl rfl ?_
      refine go_getR (pc := 136) (n := self) (ci := 3) (k := 29) (t := 13) fa_X3_90_3 t_self rfl dX3_has_136 fun r10 t_r10 => ?_
      refine go_iload_n (pc := 139) (j := 1) (i := 1) dX3_has_139 rfl rfl ?_
      refine go_oB fun n10 e_n10 => ?_
      have t_n10 := t_r10 n10 e_n10
      subst e_n10
      refine go_iald (pc := 140) t_n10 dX3_has_140 ?_
      exact go_ireturn (pc := 141) rfl dX3_has_141
    refine go_if (fun h12 => ?_) (fun h12 => ?_)
    · refine go_tableIn (pc := 13) (tgt := 142) 10 h12 dX3_has_13 (by decide) (by decide) rfl (by decide) ?_
      refine go_aload_n (pc := 142) (j := 0) (i := 0) dX3_has_142 rfl rfl ?_
      refine go_iload_n (pc := 143) (j := 1) (i := 1) dX3_has_143 rfl rfl ?_
      refine go_callVI (pc := 144) (ci := 3) (ct_X3_hasLoom self p0 t_self) lk_X3_300 rfl rfl rfl (by decide) t_self ⟨by decide, by decide⟩ (Nat.le_of_ble_eq_true rfl) dX3_has_144 rfl fun v2 u2 => ?_
      refine go_if_eq (pc := 147) (tgt := 159) dX3_has_147 (by decide) (fun h13 => ?_) (fun h13 => ?_)
      · refine go_iconst (pc := 159) (v := (-1)) dX3_has_159 (by decide) ?_
        exact go_ireturn (pc := 160) rfl dX3_has_160
      · refine go_aload_n (pc := 150) (j := 0) (i := 0) dX3_has_150 rfl rfl ?_
        refine go_getR (pc := 151) (n := self) (ci := 3) (k := 33) (t := 13) fa_X3_102_3 t_self rfl dX3_has_151 fun r11 t_r11 => ?_
        refine go_iload_n (pc := 154) (j := 1) (i := 1) dX3_has_154 rfl rfl ?_
        refine go_oB fun n11 e_n11 => ?_
        have t_n11 := t_r11 n11 e_n11
        subst e_n11
        refine go_iald (pc := 155) t_n11 dX3_has_155 ?_
        refine go_goto (pc := 156) (tgt := 160) dX3_has_156 (by decide) ?_
        exact go_ireturn (pc := 160) rfl dX3_has_160
    refine go_tableD (pc := 13) (x := p1) (tgt := 161) dX3_has_13 (by decide) (fun a b => ?_) ?_
    · rcases (show Int32.toInt p1 = 0 ∨ Int32.toInt p1 = 1 ∨ Int32.toInt p1 = 2 ∨ Int32.toInt p1 = 3 ∨ Int32.toInt p1 = 4 ∨ Int32.toInt p1 = 5 ∨ Int32.toInt p1 = 6 ∨ Int32.toInt p1 = 7 ∨ Int32.toInt p1 = 8 ∨ Int32.toInt p1 = 9 ∨ Int32.toInt p1 = 10 by omega) with e | e | e | e | e | e | e | e | e | e | e
      · exact absurd (sw_eq (v := 0) (e.trans (by decide))) h2
      · exact absurd (sw_eq (v := 1) (e.trans (by decide))) h3
      · exact absurd (sw_eq (v := 2) (e.trans (by decide))) h4
      · exact absurd (sw_eq (v := 3) (e.trans (by decide))) h5
      · exact absurd (sw_eq (v := 4) (e.trans (by decide))) h6
      · exact absurd (sw_eq (v := 5) (e.trans (by decide))) h7
      · exact absurd (sw_eq (v := 6) (e.trans (by decide))) h8
      · exact absurd (sw_eq (v := 7) (e.trans (by decide))) h9
      · exact absurd (sw_eq (v := 8) (e.trans (by decide))) h10
      · exact absurd (sw_eq (v := 9) (e.trans (by decide))) h11
      · exact absurd (sw_eq (v := 10) (e.trans (by decide))) h12
    · refine go_ldcw (pc := 161) (v := (-2147483648)) dX3_has_161 q1595 ?_
      exact go_ireturn (pc := 164) rfl dX3_has_164

def f_X3_count (self : Nat) (p0 : Int32) (u : zM) : Option (Int32 × zM) := if p0 = 0 then (some ((mI u self 0), u)) else (if p0 = 1 then (some ((mI u self 1), u)) else (if p0 = 2 then (some ((mI u self 2), u)) else (if p0 = 3 then (some ((mI u self 64), u)) else (if p0 = 4 then (some ((mI u self 52), u)) else (if p0 = 5 then (some ((mI u self 78), u)) else (if p0 = 6 then (some ((mI u self 41), u)) else (if p0 = 7 then (some ((mI u self 86), u)) else (if p0 = 8 then (some ((mI u self 96), u)) else (if p0 = 9 then (some ((mI u self 38), u)) else (some ((-1), u)))))))))))
set_option maxHeartbeats 4000000 in
theorem ct_X3_count (self : Nat) (p0 : Int32) (t_self : kd self = 3) : zMet yX3_count cX3_count 2 (some .int) 1 0 rvI (obT) [.ref self, .int p0] (f_X3_count self p0) := by
  refine zMet_of (A := [(0, .ref self), (1, .int p0)]) (B := []) (ini := false) RX3 rfl (by decide +kernel) (fun h => by cases h) (by simp [lg_sl, Value.category]) (by simp [lv_args, Value.category]) rfl (by simp [lv_args, Value.category]) fun u => ?_
  unfold f_X3_count
  refine go_iload_n (pc := 0) (j := 1) (i := 1) dX3_count_0 rfl rfl ?_
  refine go_if (fun h1 => ?_) (fun h1 => ?_)
  · refine go_tableIn (pc := 1) (tgt := 56) 0 h1 dX3_count_1 (by decide) (by decide) rfl (by decide) ?_
    refine go_aload_n (pc := 56) (j := 0) (i := 0) dX3_count_56 rfl rfl ?_
    refine go_getI (pc := 57) (n := self) (ci := 3) (k := 0) fa_X3_286_3 t_self rfl dX3_count_57 ?_
    exact go_ireturn (pc := 60) rfl dX3_count_60
  refine go_if (fun h2 => ?_) (fun h2 => ?_)
  · refine go_tableIn (pc := 1) (tgt := 61) 1 h2 dX3_count_1 (by decide) (by decide) rfl (by decide) ?_
    refine go_aload_n (pc := 61) (j := 0) (i := 0) dX3_count_61 rfl rfl ?_
    refine go_getI (pc := 62) (n := self) (ci := 3) (k := 1) fa_X3_270_3 t_self rfl dX3_count_62 ?_
    exact go_ireturn (pc := 65) rfl dX3_count_65
  refine go_if (fun h3 => ?_) (fun h3 => ?_)
  · refine go_tableIn (pc := 1) (tgt := 66) 2 h3 dX3_count_1 (by decide) (by decide) rfl (by decide) ?_
    refine go_aload_n (pc := 66) (j := 0) (i := 0) dX3_count_66 rfl rfl ?_
    refine go_getI (pc := 67) (n := self) (ci := 3) (k := 2) fa_X3_278_3 t_self rfl dX3_count_67 ?_
    exact go_ireturn (pc := 70) rfl dX3_count_70
  refine go_if (fun h4 => ?_) (fun h4 => ?_)
  · refine go_tableIn (pc := 1) (tgt := 71) 3 h4 dX3_count_1 (by decide) (by decide) rfl (by decide) ?_
    refine go_aload_n (pc := 71) (j := 0) (i := 0) dX3_count_71 rfl rfl ?_
    refine go_getI (pc := 72) (n := self) (ci := 3) (k := 64) fa_X3_451_3 t_self rfl dX3_count_72 ?_
    exact go_ireturn (pc := 75) rfl dX3_count_75
  refine go_if (fun h5 => ?_) (fun h5 => ?_)
  · refine go_tableIn (pc := 1) (tgt := 76) 4 h5 dX3_count_1 (by decide) (by decide) rfl (by decide) ?_
    refine go_aload_n (pc := 76) (j := 0) (i := 0) dX3_count_76 rfl rfl ?_
    refine go_getI (pc := 77) (n := self) (ci := 3) (k := 52) fa_X3_413_3 t_self rfl dX3_count_77 ?_
    exact go_ireturn (pc := 80) rfl dX3_count_80
  refine go_if (fun h6 => ?_) (fun h6 => ?_)
  · refine go_tableIn (pc := 1) (tgt := 81) 5 h6 dX3_count_1 (by decide) (by decide) rfl (by decide) ?_
    refine go_aload_n (pc := 81) (j := 0) (i := 0) dX3_count_81 rfl rfl ?_
    refine go_getI (pc := 82) (n := self) (ci := 3) (k := 78) fa_X3_495_3 t_self rfl dX3_count_82 ?_
    exact go_ireturn (pc := 85) rfl dX3_count_85
  refine go_if (fun h7 => ?_) (fun h7 => ?_)
  · refine go_tableIn (pc := 1) (tgt := 86) 6 h7 dX3_count_1 (by decide) (by decide) rfl (by decide) ?_
    refine go_aload_n (pc := 86) (j := 0) (i := 0) dX3_count_86 rfl rfl ?_
    refine go_getI (pc := 87) (n := self) (ci := 3) (k := 41) fa_X3_314_3 t_self rfl dX3_count_87 ?_
    exact go_ireturn (pc := 90) rfl dX3_count_90
  refine go_if (fun h8 => ?_) (fun h8 => ?_)
  · refine go_tableIn (pc := 1) (tgt := 91) 7 h8 dX3_count_1 (by decide) (by decide) rfl (by decide) ?_
    refine go_aload_n (pc := 91) (j := 0) (i := 0) dX3_count_91 rfl rfl ?_
    refine go_getI (pc := 92) (n := self) (ci := 3) (k := 86) fa_X3_504_3 t_self rfl dX3_count_92 ?_
    exact go_ireturn (pc := 95) rfl dX3_count_95
  refine go_if (fun h9 => ?_) (fun h9 => ?_)
  · refine go_tableIn (pc := 1) (tgt := 96) 8 h9 dX3_count_1 (by decide) (by decide) rfl (by decide) ?_
    refine go_aload_n (pc := 96) (j := 0) (i := 0) dX3_count_96 rfl rfl ?_
    refine go_getI (pc := 97) (n := self) (ci := 3) (k := 96) fa_X3_569_3 t_self rfl dX3_count_97 ?_
    exact go_ireturn (pc := 100) rfl dX3_count_100
  refine go_if (fun h10 => ?_) (fun h10 => ?_)
  · refine go_tableIn (pc := 1) (tgt := 101) 9 h10 dX3_count_1 (by decide) (by decide) rfl (by decide) ?_
    refine go_aload_n (pc := 101) (j := 0) (i := 0) dX3_count_101 rfl rfl ?_
    refine go_getI (pc := 102) (n := self) (ci := 3) (k := 38) fa_X3_546_3 t_self rfl dX3_count_102 ?_
    exact go_ireturn (pc := 105) rfl dX3_count_105
  refine go_tableD (pc := 1) (x := p0) (tgt := 106) dX3_count_1 (by decide) (fun a b => ?_) ?_
  · rcases (show Int32.toInt p0 = 0 ∨ Int32.toInt p0 = 1 ∨ Int32.toInt p0 = 2 ∨ Int32.toInt p0 = 3 ∨ Int32.toInt p0 = 4 ∨ Int32.toInt p0 = 5 ∨ Int32.toInt p0 = 6 ∨ Int32.toInt p0 = 7 ∨ Int32.toInt p0 = 8 ∨ Int32.toInt p0 = 9 by omega) with e | e | e | e | e | e | e | e | e | e
    · exact absurd (sw_eq (v := 0) (e.trans (by decide))) h1
    · exact absurd (sw_eq (v := 1) (e.trans (by decide))) h2
    · exact absurd (sw_eq (v := 2) (e.trans (by decide))) h3
    · exact absurd (sw_eq (v := 3) (e.trans (by decide))) h4
    · exact absurd (sw_eq (v := 4) (e.trans (by decide))) h5
    · exact absurd (sw_eq (v := 5) (e.trans (by decide))) h6
    · exact absurd (sw_eq (v := 6) (e.trans (by decide))) h7
    · exact absurd (sw_eq (v := 7) (e.trans (by decide))) h8
    · exact absurd (sw_eq (v := 8) (e.trans (by decide))) h9
    · exact absurd (sw_eq (v := 9) (e.trans (by decide))) h10
  · refine go_iconst (pc := 106) (v := (-1)) dX3_count_106 (by decide) ?_
    exact go_ireturn (pc := 107) rfl dX3_count_107

