set_option maxRecDepth 100000
def f_X3_spins_L9 (x0 : Nat) : Nat → Int32 → Int32 → Int32 → zM → Option (Int32 × zM)
  | 0, _, _, _, _ => none
  | n + 1, x1, x2, x3, u => if (mI u x0 2) ≤ x3 then (some (x1, u)) else (lt (mR u x0 20) fun r1 => oB r1 fun n1 => ix x3 (mN u n1) (lt (mR u x0 67) fun r2 => oB r2 fun n2 => ix x3 (mN u n2) (lt (mR u x0 3) fun r3 => oB r3 fun n3 => ix (mI u n1 (xN x3)) (mN u n3) (lt (mR u n3 (xN (mI u n1 (xN x3)))) fun r4 => bd (f_X3_season (mI u x0 0) u) fun v1 u1 => oB r4 fun n4 => ix v1 (mN u1 n4) (lt (mR u1 x0 68) fun r5 => oB r5 fun n5 => ix x3 (mN u1 n5) (lt (mR u1 x0 26) fun r6 => oB r6 fun n6 => ix x3 (mN u1 n6) (gzL (Int32.toInt64 ((mI u1 n6 (xN x3)) + 20)) (lt (mR u1 x0 66) fun r7 => oB r7 fun n7 => ix (mI u n1 (xN x3)) (mN u1 n7) (lt (mR u1 x0 26) fun r8 => oB r8 fun n8 => ix x3 (mN u1 n8) (lt (fun (z1 : Int64) (u2 : zM) => lt (mR u2 x0 65) fun r9 => lt (fun (z2 : Int32) (u3 : zM) => oB r9 fun n9 => ix x3 (mN u3 n9) (lt (sI u3 n9 (xN x3) z2) fun u4 => lt (mR u4 x0 65) fun r10 => oB r10 fun n10 => ix x3 (mN u4 n10) (lt (fun (z3 : Int32) (z4 : Int32) (u5 : zM) => f_X3_spins_L9 x0 n z3 z4 (x3 + 1) u5) fun j3 => if (mI u4 n10 (xN x3)) = 0 then (j3 x1 x2 u4) else (lt (mR u4 x0 66) fun r11 => oB r11 fun n11 => ix (mI u n1 (xN x3)) (mN u4 n11) (lt (mR u4 x0 65) fun r12 => oB r12 fun n12 => ix x3 (mN u4 n12) (lt (mR u4 x0 26) fun r13 => oB r13 fun n13 => ix x3 (mN u4 n13) (lt (mR u4 x0 26) fun r14 => oB r14 fun n14 => ix x3 (mN u4 n14) (gz (mI u4 n14 (xN x3)) (ix (mI u n1 (xN x3)) (mN u4 n11) (lt (sI u4 n11 (xN (mI u n1 (xN x3))) ((mI u4 n11 (xN (mI u n1 (xN x3)))) - ((((mI u4 n12 (xN x3)) + (mI u4 n13 (xN x3))) - 1) / (mI u4 n14 (xN x3))))) fun u6 => lt (mR u6 x0 65) fun r15 => oB r15 fun n15 => ix x3 (mN u6 n15) (j3 (x1 + (mI u6 n15 (xN x3))) (x2 + 1) u6))))))))))) fun j2 => if x2 = 300 then (j2 0 u2) else (j2 (Int64.toInt32 z1) u2)) fun j1 => if (lg_cmp ((((Int32.toInt64 (mI u n2 (xN x3))) * (Int32.toInt64 (mI u1 n4 (xN v1)))) * (Int32.toInt64 (10 + (mI u1 n5 (xN x3))))) / (Int32.toInt64 ((mI u1 n6 (xN x3)) + 20))) ((Int32.toInt64 (mI u1 n7 (xN (mI u n1 (xN x3))))) * (Int32.toInt64 (mI u1 n8 (xN x3))))) ≤ 0 then (j1 ((((Int32.toInt64 (mI u n2 (xN x3))) * (Int32.toInt64 (mI u1 n4 (xN v1)))) * (Int32.toInt64 (10 + (mI u1 n5 (xN x3))))) / (Int32.toInt64 ((mI u1 n6 (xN x3)) + 20))) u1) else (lt (mR u1 x0 66) fun r16 => oB r16 fun n16 => ix (mI u n1 (xN x3)) (mN u1 n16) (lt (mR u1 x0 26) fun r17 => oB r17 fun n17 => ix x3 (mN u1 n17) (j1 ((Int32.toInt64 (mI u1 n16 (xN (mI u n1 (xN x3))))) * (Int32.toInt64 (mI u1 n17 (xN x3)))) u1)))))))))))))
section
variable {c0 s0 : Nat} {tbv : List ExceptionTableEntry}
set_option maxHeartbeats 4000000 in
theorem g_X3_spins_L9 (x0 : Nat) (t_x0 : kd x0 = 3) : ∀ (n : Nat) (x1 : Int32) (x2 : Int32) (x3 : Int32) (u : zM), Go RX3 cX3_spins 7 (some .int) false 2 20 [] (obT) (zQ rvI) c0 s0 9 [(0, .ref x0), (1, .int x1), (2, .int x2), (3, .int x3)] [] [] u (f_X3_spins_L9 x0 n x1 x2 x3 u) := by
  intro n
  induction n with
  | zero => intros; exact go_none
  | succ n ih =>
    intro x1 x2 x3 u
    unfold f_X3_spins_L9
    refine go_iload_n (pc := 9) (j := 3) (i := 3) dX3_spins_9 rfl rfl ?_
    refine go_aload_n (pc := 10) (j := 0) (i := 0) dX3_spins_10 rfl rfl ?_
    refine go_getI (pc := 11) (n := x0) (ci := 3) (k := 2) fa_X3_278_3 t_x0 rfl dX3_spins_11 ?_
    refine go_icmp_ge (pc := 14) (tgt := 195) dX3_spins_14 (by decide) (fun h1 => ?_) (fun h1 => ?_)
    · refine go_iload_n (pc := 195) (j := 1) (i := 1) dX3_spins_195 rfl rfl ?_
      exact go_ireturn (pc := 196) rfl dX3_spins_196
    · refine go_aload_n (pc := 17) (j := 0) (i := 0) dX3_spins_17 rfl rfl ?_
      refine go_getR (pc := 18) (n := x0) (ci := 3) (k := 20) (t := 13) fa_X3_63_3 t_x0 rfl dX3_spins_18 fun r1 t_r1 => ?_
      refine go_iload_n (pc := 21) (j := 3) (i := 3) dX3_spins_21 rfl rfl ?_
      refine go_oB fun n1 e_n1 => ?_
      have t_n1 := t_r1 n1 e_n1
      subst e_n1
      refine go_iald (pc := 22) t_n1 dX3_spins_22 ?_
      refine go_istore (pc := 23) (i := 4) (A' := [(0, .ref x0), (1, .int x1), (2, .int x2), (3, .int x3), (4, .int (mI u n1 (xN x3)))]) (by decide) rfl rfl rfl dX3_spins_23 ?_
      refine go_aload_n (pc := 25) (j := 0) (i := 0) dX3_spins_25 rfl rfl ?_
      refine go_getR (pc := 26) (n := x0) (ci := 3) (k := 67) (t := 13) fa_X3_209_3 t_x0 rfl dX3_spins_26 fun r2 t_r2 => ?_
      refine go_iload_n (pc := 29) (j := 3) (i := 3) dX3_spins_29 rfl rfl ?_
      refine go_oB fun n2 e_n2 => ?_
      have t_n2 := t_r2 n2 e_n2
      subst e_n2
      refine go_iald (pc := 30) t_n2 dX3_spins_30 ?_
      refine go_i2l (pc := 31) dX3_spins_31 ?_
      refine go_aload_n (pc := 32) (j := 0) (i := 0) dX3_spins_32 rfl rfl ?_
      refine go_getR (pc := 33) (n := x0) (ci := 3) (k := 3) (t := 23) fa_X3_11_3 t_x0 rfl dX3_spins_33 fun r3 t_r3 => ?_
      refine go_iload (pc := 36) (i := 4) dX3_spins_36 rfl ?_
      refine go_oB fun n3 e_n3 => ?_
      have t_n3 := t_r3 n3 e_n3
      subst e_n3
      refine go_aald (pc := 38) (n := n3) (ci := 23) (t := 13) (by decide) (by decide) t_n3 rfl dX3_spins_38 fun r4 t_r4 => ?_
      refine go_aload_n (pc := 39) (j := 0) (i := 0) dX3_spins_39 rfl rfl ?_
      refine go_getI (pc := 40) (n := x0) (ci := 3) (k := 0) fa_X3_286_3 t_x0 rfl dX3_spins_40 ?_
      refine go_callSI (pc := 43) (ct_X3_season (mI u x0 0)) lk_X3_436 rfl ⟨by decide, by decide⟩ (by simp [cat_rf, cat_int, cat_ref, cat_long]) dX3_spins_43 rfl fun v1 u1 => ?_
      refine go_oB fun n4 e_n4 => ?_
      have t_n4 := t_r4 n4 e_n4
      subst e_n4
      refine go_iald (pc := 46) t_n4 dX3_spins_46 ?_
      refine go_i2l (pc := 47) dX3_spins_47 ?_
      refine go_lmul (pc := 48) dX3_spins_48  ?_
      refine go_bipush (pc := 49) (v := 10) dX3_spins_49 (by decide) ?_
      refine go_aload_n (pc := 51) (j := 0) (i := 0) dX3_spins_51 rfl rfl ?_
      refine go_getR (pc := 52) (n := x0) (ci := 3) (k := 68) (t := 13) fa_X3_212_3 t_x0 rfl dX3_spins_52 fun r5 t_r5 => ?_
      refine go_iload_n (pc := 55) (j := 3) (i := 3) dX3_spins_55 rfl rfl ?_
      refine go_oB fun n5 e_n5 => ?_
      have t_n5 := t_r5 n5 e_n5
      subst e_n5
      refine go_iald (pc := 56) t_n5 dX3_spins_56 ?_
      refine go_iadd (pc := 57) dX3_spins_57 ?_
      refine go_i2l (pc := 58) dX3_spins_58 ?_
      refine go_lmul (pc := 59) dX3_spins_59  ?_
      refine go_aload_n (pc := 60) (j := 0) (i := 0) dX3_spins_60 rfl rfl ?_
      refine go_getR (pc := 61) (n := x0) (ci := 3) (k := 26) (t := 13) fa_X3_81_3 t_x0 rfl dX3_spins_61 fun r6 t_r6 => ?_
      refine go_iload_n (pc := 64) (j := 3) (i := 3) dX3_spins_64 rfl rfl ?_
      refine go_oB fun n6 e_n6 => ?_
      have t_n6 := t_r6 n6 e_n6
      subst e_n6
      refine go_iald (pc := 65) t_n6 dX3_spins_65 ?_
      refine go_bipush (pc := 66) (v := 20) dX3_spins_66 (by decide) ?_
      refine go_iadd (pc := 68) dX3_spins_68 ?_
      refine go_i2l (pc := 69) dX3_spins_69 ?_
      refine go_gzL fun h2 => ?_
      refine go_ldiv (pc := 70) dX3_spins_70 h2 ?_
      refine go_lstore (pc := 71) (i := 5) (A' := [(0, .ref x0), (1, .int x1), (2, .int x2), (3, .int x3), (4, .int (mI u n1 (xN x3)))]) (B' := [(5, ((((Int32.toInt64 (mI u n2 (xN x3))) * (Int32.toInt64 (mI u1 n4 (xN v1)))) * (Int32.toInt64 (10 + (mI u1 n5 (xN x3))))) / (Int32.toInt64 ((mI u1 n6 (xN x3)) + 20))))]) (by decide) (by simp) rfl (by simp) dX3_spins_71 ?_
      refine go_lload (pc := 73) (i := 5) dX3_spins_73 0 rfl ?_
      refine go_aload_n (pc := 75) (j := 0) (i := 0) dX3_spins_75 rfl rfl ?_
      refine go_getR (pc := 76) (n := x0) (ci := 3) (k := 66) (t := 13) fa_X3_206_3 t_x0 rfl dX3_spins_76 fun r7 t_r7 => ?_
      refine go_iload (pc := 79) (i := 4) dX3_spins_79 rfl ?_
      refine go_oB fun n7 e_n7 => ?_
      have t_n7 := t_r7 n7 e_n7
      subst e_n7
      refine go_iald (pc := 81) t_n7 dX3_spins_81 ?_
      refine go_i2l (pc := 82) dX3_spins_82 ?_
      refine go_aload_n (pc := 83) (j := 0) (i := 0) dX3_spins_83 rfl rfl ?_
      refine go_getR (pc := 84) (n := x0) (ci := 3) (k := 26) (t := 13) fa_X3_81_3 t_x0 rfl dX3_spins_84 fun r8 t_r8 => ?_
      refine go_iload_n (pc := 87) (j := 3) (i := 3) dX3_spins_87 rfl rfl ?_
      refine go_oB fun n8 e_n8 => ?_
      have t_n8 := t_r8 n8 e_n8
      subst e_n8
      refine go_iald (pc := 88) t_n8 dX3_spins_88 ?_
      refine go_i2l (pc := 89) dX3_spins_89 ?_
      refine go_lmul (pc := 90) dX3_spins_90  ?_
      refine go_lcmp (pc := 91) dX3_spins_91 ?_
      refine go_join1 (pcx := 113) (α1 := Int64) (fun z1 => [(0, .ref x0), (1, .int x1), (2, .int x2), (3, .int x3), (4, .int (mI u n1 (xN x3)))]) (fun z1 => [(5, z1)]) (fun z1 => []) (fun z1 => True) (fun z1 u2 _ => ?_) (fun j1 hj1 => ?_)
      · refine go_aload_n (pc := 113) (j := 0) (i := 0) dX3_spins_113 rfl rfl ?_
        refine go_getR (pc := 114) (n := x0) (ci := 3) (k := 65) (t := 13) fa_X3_203_3 t_x0 rfl dX3_spins_114 fun r9 t_r9 => ?_
        refine go_iload_n (pc := 117) (j := 3) (i := 3) dX3_spins_117 rfl rfl ?_
        refine go_iload_n (pc := 118) (j := 2) (i := 2) dX3_spins_118 rfl rfl ?_
        refine go_sipush (pc := 119) (v := 300) dX3_spins_119 (by decide) ?_
        refine go_join1 (pcx := 132) (α1 := Int32) (fun z2 => [(0, .ref x0), (1, .int x1), (2, .int x2), (3, .int x3), (4, .int (mI u n1 (xN x3)))]) (fun z2 => []) (fun z2 => [.int z2, .int x3, va_rf r9]) (fun z2 => True) (fun z2 u3 _ => ?_) (fun j2 hj2 => ?_)
        · refine go_oB fun n9 e_n9 => ?_
          have t_n9 := t_r9 n9 e_n9
          subst e_n9
          refine go_iast (pc := 132) t_n9 dX3_spins_132 fun u4 => ?_
          refine go_aload_n (pc := 133) (j := 0) (i := 0) dX3_spins_133 rfl rfl ?_
          refine go_getR (pc := 134) (n := x0) (ci := 3) (k := 65) (t := 13) fa_X3_203_3 t_x0 rfl dX3_spins_134 fun r10 t_r10 => ?_
          refine go_iload_n (pc := 137) (j := 3) (i := 3) dX3_spins_137 rfl rfl ?_
          refine go_oB fun n10 e_n10 => ?_
          have t_n10 := t_r10 n10 e_n10
          subst e_n10
          refine go_iald (pc := 138) t_n10 dX3_spins_138 ?_
          refine go_join2 (pcx := 189) (α1 := Int32) (α2 := Int32) (fun z3 z4 => [(0, .ref x0), (1, .int z3), (2, .int z4), (3, .int x3)]) (fun z3 z4 => []) (fun z3 z4 => []) (fun z3 z4 => True) (fun z3 z4 u5 _ => ?_) (fun j3 hj3 => ?_)
          · refine go_iinc (pc := 189) (i := 3) (w := 1) (A' := [(0, .ref x0), (1, .int z3), (2, .int z4), (3, .int (x3 + 1))]) rfl (by decide) (by decide) rfl rfl rfl dX3_spins_189 ?_
            refine go_goto (pc := 192) (tgt := 9) dX3_spins_192 (by decide) ?_
            exact go_weak (A' := [(0, .ref x0), (1, .int z3), (2, .int z4), (3, .int (x3 + 1))]) (B' := []) ⟨rfl, rfl, rfl, rfl, trivial⟩ rfl (fun q h => by cases h) (ih z3 z4 (x3 + 1) u5)
          · refine go_if_ne (pc := 139) (tgt := 145) dX3_spins_139 (by decide) (fun h3 => ?_) (fun h3 => ?_)
            · refine go_goto (pc := 142) (tgt := 189) dX3_spins_142 (by decide) ?_
              exact go_weak (A' := [(0, .ref x0), (1, .int x1), (2, .int x2), (3, .int x3)]) (B' := []) ⟨rfl, rfl, rfl, rfl, trivial⟩ rfl (fun q h => by cases h) (hj3 x1 x2 u4 trivial)
            · refine go_aload_n (pc := 145) (j := 0) (i := 0) dX3_spins_145 rfl rfl ?_
              refine go_getR (pc := 146) (n := x0) (ci := 3) (k := 66) (t := 13) fa_X3_206_3 t_x0 rfl dX3_spins_146 fun r11 t_r11 => ?_
              refine go_iload (pc := 149) (i := 4) dX3_spins_149 rfl ?_
              refine go_oB fun n11 e_n11 => ?_
              have t_n11 := t_r11 n11 e_n11
              subst e_n11
              refine go_dup2 (pc := 151) dX3_spins_151 ?_
              refine go_iald (pc := 152) t_n11 dX3_spins_152 ?_
              refine go_aload_n (pc := 153) (j := 0) (i := 0) dX3_spins_153 rfl rfl ?_
              refine go_getR (pc := 154) (n := x0) (ci := 3) (k := 65) (t := 13) fa_X3_203_3 t_x0 rfl dX3_spins_154 fun r12 t_r12 => ?_
              refine go_iload_n (pc := 157) (j := 3) (i := 3) dX3_spins_157 rfl rfl ?_
              refine go_oB fun n12 e_n12 => ?_
              have t_n12 := t_r12 n12 e_n12
              subst e_n12
              refine go_iald (pc := 158) t_n12 dX3_spins_158 ?_
              refine go_aload_n (pc := 159) (j := 0) (i := 0) dX3_spins_159 rfl rfl ?_
              refine go_getR (pc := 160) (n := x0) (ci := 3) (k := 26) (t := 13) fa_X3_81_3 t_x0 rfl dX3_spins_160 fun r13 t_r13 => ?_
              refine go_iload_n (pc := 163) (j := 3) (i := 3) dX3_spins_163 rfl rfl ?_
              refine go_oB fun n13 e_n13 => ?_
              have t_n13 := t_r13 n13 e_n13
              subst e_n13
              refine go_iald (pc := 164) t_n13 dX3_spins_164 ?_
              refine go_iadd (pc := 165) dX3_spins_165 ?_
              refine go_iconst (pc := 166) (v := 1) dX3_spins_166 (by decide) ?_
              refine go_isub (pc := 167) dX3_spins_167 ?_
              refine go_aload_n (pc := 168) (j := 0) (i := 0) dX3_spins_168 rfl rfl ?_
              refine go_getR (pc := 169) (n := x0) (ci := 3) (k := 26) (t := 13) fa_X3_81_3 t_x0 rfl dX3_spins_169 fun r14 t_r14 => ?_
              refine go_iload_n (pc := 172) (j := 3) (i := 3) dX3_spins_172 rfl rfl ?_
              refine go_oB fun n14 e_n14 => ?_
              have t_n14 := t_r14 n14 e_n14
              subst e_n14
              refine go_iald (pc := 173) t_n14 dX3_spins_173 ?_
              refine go_gz fun h4 => ?_
              refine go_idiv (pc := 174) dX3_spins_174 h4 ?_
              refine go_isub (pc := 175) dX3_spins_175 ?_
              refine go_iast (pc := 176) t_n11 dX3_spins_176 fun u6 => ?_
              refine go_iinc (pc := 177) (i := 2) (w := 1) (A' := [(0, .ref x0), (1, .int x1), (2, .int (x2 + 1)), (3, .int x3), (4, .int (mI u n1 (xN x3)))]) rfl (by decide) (by decide) rfl rfl rfl dX3_spins_177 ?_
              refine go_iload_n (pc := 180) (j := 1) (i := 1) dX3_spins_180 rfl rfl ?_
              refine go_aload_n (pc := 181) (j := 0) (i := 0) dX3_spins_181 rfl rfl ?_
              refine go_getR (pc := 182) (n := x0) (ci := 3) (k := 65) (t := 13) fa_X3_203_3 t_x0 rfl dX3_spins_182 fun r15 t_r15 => ?_
              refine go_iload_n (pc := 185) (j := 3) (i := 3) dX3_spins_185 rfl rfl ?_
              refine go_oB fun n15 e_n15 => ?_
              have t_n15 := t_r15 n15 e_n15
              subst e_n15
              refine go_iald (pc := 186) t_n15 dX3_spins_186 ?_
              refine go_iadd (pc := 187) dX3_spins_187 ?_
              refine go_istore_n (pc := 188) (j := 1) (i := 1) (A' := [(0, .ref x0), (1, .int (x1 + (mI u6 n15 (xN x3)))), (2, .int (x2 + 1)), (3, .int x3), (4, .int (mI u n1 (xN x3)))]) rfl (by decide) rfl rfl rfl dX3_spins_188 ?_
              exact go_weak (A' := [(0, .ref x0), (1, .int (x1 + (mI u6 n15 (xN x3)))), (2, .int (x2 + 1)), (3, .int x3)]) (B' := []) ⟨rfl, rfl, rfl, rfl, trivial⟩ rfl (fun q h => by cases h) (hj3 (x1 + (mI u6 n15 (xN x3))) (x2 + 1) u6 trivial)
        · refine go_icmp_ne (pc := 122) (tgt := 129) dX3_spins_122 (by decide) (fun h5 => ?_) (fun h5 => ?_)
          · refine go_iconst (pc := 125) (v := 0) dX3_spins_125 (by decide) ?_
            refine go_goto (pc := 126) (tgt := 132) dX3_spins_126 (by decide) ?_
            exact go_weak (A' := [(0, .ref x0), (1, .int x1), (2, .int x2), (3, .int x3), (4, .int (mI u n1 (xN x3)))]) (B' := []) ⟨rfl, rfl, rfl, rfl, rfl, trivial⟩ rfl (fun q h => by cases h) (hj2 0 u2 trivial)
          · refine go_lload (pc := 129) (i := 5) dX3_spins_129 0 rfl ?_
            refine go_l2i (pc := 131) dX3_spins_131 ?_
            exact go_weak (A' := [(0, .ref x0), (1, .int x1), (2, .int x2), (3, .int x3), (4, .int (mI u n1 (xN x3)))]) (B' := []) ⟨rfl, rfl, rfl, rfl, rfl, trivial⟩ rfl (fun q h => by cases h) (hj2 (Int64.toInt32 z1) u2 trivial)
      · refine go_if_le (pc := 92) (tgt := 113) dX3_spins_92 (by decide) (fun h6 => ?_) (fun h6 => ?_)
        · exact go_weak (A' := [(0, .ref x0), (1, .int x1), (2, .int x2), (3, .int x3), (4, .int (mI u n1 (xN x3)))]) (B' := [(5, ((((Int32.toInt64 (mI u n2 (xN x3))) * (Int32.toInt64 (mI u1 n4 (xN v1)))) * (Int32.toInt64 (10 + (mI u1 n5 (xN x3))))) / (Int32.toInt64 ((mI u1 n6 (xN x3)) + 20))))]) ⟨rfl, rfl, rfl, rfl, rfl, trivial⟩ rfl (by simp) (hj1 ((((Int32.toInt64 (mI u n2 (xN x3))) * (Int32.toInt64 (mI u1 n4 (xN v1)))) * (Int32.toInt64 (10 + (mI u1 n5 (xN x3))))) / (Int32.toInt64 ((mI u1 n6 (xN x3)) + 20))) u1 trivial)
        · refine go_aload_n (pc := 95) (j := 0) (i := 0) dX3_spins_95 rfl rfl ?_
          refine go_getR (pc := 96) (n := x0) (ci := 3) (k := 66) (t := 13) fa_X3_206_3 t_x0 rfl dX3_spins_96 fun r16 t_r16 => ?_
          refine go_iload (pc := 99) (i := 4) dX3_spins_99 rfl ?_
          refine go_oB fun n16 e_n16 => ?_
          have t_n16 := t_r16 n16 e_n16
          subst e_n16
          refine go_iald (pc := 101) t_n16 dX3_spins_101 ?_
          refine go_i2l (pc := 102) dX3_spins_102 ?_
          refine go_aload_n (pc := 103) (j := 0) (i := 0) dX3_spins_103 rfl rfl ?_
          refine go_getR (pc := 104) (n := x0) (ci := 3) (k := 26) (t := 13) fa_X3_81_3 t_x0 rfl dX3_spins_104 fun r17 t_r17 => ?_
          refine go_iload_n (pc := 107) (j := 3) (i := 3) dX3_spins_107 rfl rfl ?_
          refine go_oB fun n17 e_n17 => ?_
          have t_n17 := t_r17 n17 e_n17
          subst e_n17
          refine go_iald (pc := 108) t_n17 dX3_spins_108 ?_
          refine go_i2l (pc := 109) dX3_spins_109 ?_
          refine go_lmul (pc := 110) dX3_spins_110  ?_
          refine go_lstore (pc := 111) (i := 5) (A' := [(0, .ref x0), (1, .int x1), (2, .int x2), (3, .int x3), (4, .int (mI u n1 (xN x3)))]) (B' := [(5, ((Int32.toInt64 (mI u1 n16 (xN (mI u n1 (xN x3))))) * (Int32.toInt64 (mI u1 n17 (xN x3)))))]) (by decide) (by simp) rfl (by simp) dX3_spins_111 ?_
          exact go_weak (A' := [(0, .ref x0), (1, .int x1), (2, .int x2), (3, .int x3), (4, .int (mI u n1 (xN x3)))]) (B' := [(5, ((Int32.toInt64 (mI u1 n16 (xN (mI u n1 (xN x3))))) * (Int32.toInt64 (mI u1 n17 (xN x3)))))]) ⟨rfl, rfl, rfl, rfl, rfl, trivial⟩ rfl (by simp) (hj1 ((Int32.toInt64 (mI u1 n16 (xN (mI u n1 (xN x3))))) * (Int32.toInt64 (mI u1 n17 (xN x3)))) u1 trivial)
end
def f_X3_spins (self : Nat) (u : zM) : Option (Int32 × zM) := f_X3_spins_L9 self zFu 0 (mI u self 64) 0 u
set_option maxHeartbeats 4000000 in
theorem ct_X3_spins (self : Nat) (t_self : kd self = 3) : zMet yX3_spins cX3_spins 7 (some .int) 2 20 rvI (obT) [.ref self] (f_X3_spins self) := by
  refine zMet_of (A := [(0, .ref self)]) (B := []) (ini := false) RX3 rfl (by decide +kernel) (fun h => by cases h) (by simp [lg_sl, Value.category]) (by simp [lv_args, Value.category]) rfl (by simp [lv_args, Value.category]) fun u => ?_
  unfold f_X3_spins
  refine go_iconst (pc := 0) (v := 0) dX3_spins_0 (by decide) ?_
  refine go_istore_n (pc := 1) (j := 1) (i := 1) (A' := [(0, .ref self), (1, .int 0)]) rfl (by decide) rfl rfl rfl dX3_spins_1 ?_
  refine go_aload_n (pc := 2) (j := 0) (i := 0) dX3_spins_2 rfl rfl ?_
  refine go_getI (pc := 3) (n := self) (ci := 3) (k := 64) fa_X3_451_3 t_self rfl dX3_spins_3 ?_
  refine go_istore_n (pc := 6) (j := 2) (i := 2) (A' := [(0, .ref self), (1, .int 0), (2, .int (mI u self 64))]) rfl (by decide) rfl rfl rfl dX3_spins_6 ?_
  refine go_iconst (pc := 7) (v := 0) dX3_spins_7 (by decide) ?_
  refine go_istore_n (pc := 8) (j := 3) (i := 3) (A' := [(0, .ref self), (1, .int 0), (2, .int (mI u self 64)), (3, .int 0)]) rfl (by decide) rfl rfl rfl dX3_spins_8 ?_
  exact go_weak (A' := [(0, .ref self), (1, .int 0), (2, .int (mI u self 64)), (3, .int 0)]) (B' := []) ⟨rfl, rfl, rfl, rfl, trivial⟩ rfl (fun q h => by cases h) (g_X3_spins_L9 self t_self zFu 0 (mI u self 64) 0 u)

def f_X3_strengthOf (self : Nat) (p0 : Int32) (p1 : Int32) (u : zM) : Option (Int32 × zM) := lt (mR u self 6) fun r1 => lt (mR u self 20) fun r2 => oB r2 fun n1 => ix p0 (mN u n1) (oB r1 fun n2 => ix (mI u n1 (xN p0)) (mN u n2) (lt (mR u self 26) fun r3 => oB r3 fun n3 => ix p0 (mN u n3) (bd (f_X3_least (((20 * (mI u n2 (xN (mI u n1 (xN p0))))) + (3 * p1)) - (2 * (mI u n3 (xN p0)))) u) fun v1 u1 => some (v1, u1))))
set_option maxHeartbeats 4000000 in
theorem ct_X3_strengthOf (self : Nat) (p0 : Int32) (p1 : Int32) (t_self : kd self = 3) : zMet yX3_strengthOf cX3_strengthOf 3 (some .int) 2 20 rvI (obT) [.ref self, .int p0, .int p1] (f_X3_strengthOf self p0 p1) := by
  refine zMet_of (A := [(0, .ref self), (1, .int p0), (2, .int p1)]) (B := []) (ini := false) RX3 rfl (by decide +kernel) (fun h => by cases h) (by simp [lg_sl, Value.category]) (by simp [lv_args, Value.category]) rfl (by simp [lv_args, Value.category]) fun u => ?_
  unfold f_X3_strengthOf
  refine go_bipush (pc := 0) (v := 20) dX3_strengthOf_0 (by decide) ?_
  refine go_aload_n (pc := 2) (j := 0) (i := 0) dX3_strengthOf_2 rfl rfl ?_
  refine go_getR (pc := 3) (n := self) (ci := 3) (k := 6) (t := 13) fa_X3_20_3 t_self rfl dX3_strengthOf_3 fun r1 t_r1 => ?_
  refine go_aload_n (pc := 6) (j := 0) (i := 0) dX3_strengthOf_6 rfl rfl ?_
  refine go_getR (pc := 7) (n := self) (ci := 3) (k := 20) (t := 13) fa_X3_63_3 t_self rfl dX3_strengthOf_7 fun r2 t_r2 => ?_
  refine go_iload_n (pc := 10) (j := 1) (i := 1) dX3_strengthOf_10 rfl rfl ?_
  refine go_oB fun n1 e_n1 => ?_
  have t_n1 := t_r2 n1 e_n1
  subst e_n1
  refine go_iald (pc := 11) t_n1 dX3_strengthOf_11 ?_
  refine go_oB fun n2 e_n2 => ?_
  have t_n2 := t_r1 n2 e_n2
  subst e_n2
  refine go_iald (pc := 12) t_n2 dX3_strengthOf_12 ?_
  refine go_imul (pc := 13) dX3_strengthOf_13 ?_
  refine go_iconst (pc := 14) (v := 3) dX3_strengthOf_14 (by decide) ?_
  refine go_iload_n (pc := 15) (j := 2) (i := 2) dX3_strengthOf_15 rfl rfl ?_
  refine go_imul (pc := 16) dX3_strengthOf_16 ?_
  refine go_iadd (pc := 17) dX3_strengthOf_17 ?_
  refine go_iconst (pc := 18) (v := 2) dX3_strengthOf_18 (by decide) ?_
  refine go_aload_n (pc := 19) (j := 0) (i := 0) dX3_strengthOf_19 rfl rfl ?_
  refine go_getR (pc := 20) (n := self) (ci := 3) (k := 26) (t := 13) fa_X3_81_3 t_self rfl dX3_strengthOf_20 fun r3 t_r3 => ?_
  refine go_iload_n (pc := 23) (j := 1) (i := 1) dX3_strengthOf_23 rfl rfl ?_
  refine go_oB fun n3 e_n3 => ?_
  have t_n3 := t_r3 n3 e_n3
  subst e_n3
  refine go_iald (pc := 24) t_n3 dX3_strengthOf_24 ?_
  refine go_imul (pc := 25) dX3_strengthOf_25 ?_
  refine go_isub (pc := 26) dX3_strengthOf_26 ?_
  refine go_callSI (pc := 27) (ct_X3_least (((20 * (mI u n2 (xN (mI u n1 (xN p0))))) + (3 * p1)) - (2 * (mI u n3 (xN p0))))) lk_X3_448 rfl ⟨by decide, by decide⟩ (Nat.le_of_ble_eq_true rfl) dX3_strengthOf_27 rfl fun v1 u1 => ?_
  exact go_ireturn (pc := 30) rfl dX3_strengthOf_30

def f_X3_lays_L33 (x0 : Nat) (k59 : zM → Option (Unit × zM)) : Nat → Int32 → zM → Option (Unit × zM)
  | 0, _, _ => none
  | n + 1, x2, u => if (mI u x0 1) ≤ x2 then (k59 u) else (lt (mR u x0 7) fun r3 => lt (mR u x0 66) fun r4 => oB r4 fun n3 => ix x2 (mN u n3) (oB r3 fun n4 => ix x2 (mN u n4) (lt (sI u n4 (xN x2) (mI u n3 (xN x2))) fun u5 => f_X3_lays_L33 x0 k59 n (x2 + 1) u5)))
section
variable {c0 s0 : Nat} {tbv : List ExceptionTableEntry}
set_option maxHeartbeats 4000000 in
theorem g_X3_lays_L33 (x0 : Nat) (k59 : zM → Option (Unit × zM)) (t_x0 : kd x0 = 3) (hk59 : ∀ (u : zM), Go RX3 cX3_lays 3 (none) false 3 46 [] (obT) (zQ rvV) c0 s0 59 [(0, .ref x0)] [] [] u (k59 u)) : ∀ (n : Nat) (x2 : Int32) (u : zM), Go RX3 cX3_lays 3 (none) false 3 46 [] (obT) (zQ rvV) c0 s0 33 [(0, .ref x0), (2, .int x2)] [] [] u (f_X3_lays_L33 x0 k59 n x2 u) := by
  intro n
  induction n with
  | zero => intros; exact go_none
  | succ n ih =>
    intro x2 u
    unfold f_X3_lays_L33
    refine go_iload_n (pc := 33) (j := 2) (i := 2) dX3_lays_33 rfl rfl ?_
    refine go_aload_n (pc := 34) (j := 0) (i := 0) dX3_lays_34 rfl rfl ?_
    refine go_getI (pc := 35) (n := x0) (ci := 3) (k := 1) fa_X3_270_3 t_x0 rfl dX3_lays_35 ?_
    refine go_icmp_ge (pc := 38) (tgt := 59) dX3_lays_38 (by decide) (fun h1 => ?_) (fun h1 => ?_)
    · exact go_weak (A' := [(0, .ref x0)]) (B' := []) ⟨rfl, trivial⟩ rfl (fun q h => by cases h) (hk59 u)
    · refine go_aload_n (pc := 41) (j := 0) (i := 0) dX3_lays_41 rfl rfl ?_
      refine go_getR (pc := 42) (n := x0) (ci := 3) (k := 7) (t := 13) fa_X3_24_3 t_x0 rfl dX3_lays_42 fun r3 t_r3 => ?_
      refine go_iload_n (pc := 45) (j := 2) (i := 2) dX3_lays_45 rfl rfl ?_
      refine go_aload_n (pc := 46) (j := 0) (i := 0) dX3_lays_46 rfl rfl ?_
      refine go_getR (pc := 47) (n := x0) (ci := 3) (k := 66) (t := 13) fa_X3_206_3 t_x0 rfl dX3_lays_47 fun r4 t_r4 => ?_
      refine go_iload_n (pc := 50) (j := 2) (i := 2) dX3_lays_50 rfl rfl ?_
      refine go_oB fun n3 e_n3 => ?_
      have t_n3 := t_r4 n3 e_n3
      subst e_n3
      refine go_iald (pc := 51) t_n3 dX3_lays_51 ?_
      refine go_oB fun n4 e_n4 => ?_
      have t_n4 := t_r3 n4 e_n4
      subst e_n4
      refine go_iast (pc := 52) t_n4 dX3_lays_52 fun u5 => ?_
      refine go_iinc (pc := 53) (i := 2) (w := 1) (A' := [(0, .ref x0), (2, .int (x2 + 1))]) rfl (by decide) (by decide) rfl rfl rfl dX3_lays_53 ?_
      refine go_goto (pc := 56) (tgt := 33) dX3_lays_56 (by decide) ?_
      exact go_weak (A' := [(0, .ref x0), (2, .int (x2 + 1))]) (B' := []) ⟨rfl, rfl, trivial⟩ rfl (fun q h => by cases h) (ih (x2 + 1) u5)
end
def f_X3_lays_L61 (x0 : Nat) : Nat → Int32 → zM → Option (Unit × zM)
  | 0, _, _ => none
  | n + 1, x2, u => if (mI u x0 2) ≤ x2 then (some ((), u)) else (lt (mR u x0 36) fun r5 => oB r5 fun n5 => ix x2 (mN u n5) (lt (mR u x0 21) fun r6 => oB r6 fun n6 => ix x2 (mN u n6) (lt (mR u x0 3) fun r7 => lt (mR u x0 20) fun r8 => oB r8 fun n7 => ix x2 (mN u n7) (oB r7 fun n8 => ix (mI u n7 (xN x2)) (mN u n8) (lt (mR u n8 (xN (mI u n7 (xN x2)))) fun r9 => bd (f_X3_season (mI u x0 0) u) fun v3 u7 => oB r9 fun n9 => ix v3 (mN u7 n9) (lt (mR u7 x0 22) fun r10 => oB r10 fun n10 => ix x2 (mN u7 n10) (ix x2 (mN u7 n5) (lt (sI u7 n5 (xN x2) ((mI u n5 (xN x2)) + ((((mI u n6 (xN x2)) * (mI u7 n9 (xN v3))) * (10 + (mI u7 n10 (xN x2)))) / 24))) fun u8 => lt (mR u8 x0 65) fun r11 => oB r11 fun n11 => ix x2 (mN u8 n11) (lt (fun (u9 : zM) => f_X3_lays_L61 x0 n (x2 + 1) u9) fun j1 => if (mI u8 n11 (xN x2)) = 0 then (j1 u8) else (lt (mR u8 x0 58) fun r12 => oB r12 fun n12 => ix (mI u8 x0 64) (mN u8 n12) (lt (sI u8 n12 (xN (mI u8 x0 64)) x2) fun u10 => lt (mR u10 x0 59) fun r13 => oB r13 fun n13 => ix (mI u10 x0 64) (mN u10 n13) (lt (sI u10 n13 (xN (mI u10 x0 64)) (mI u10 x0 0)) fun u11 => lt (mR u11 x0 60) fun r14 => lt (mR u11 x0 26) fun r15 => oB r15 fun n14 => ix x2 (mN u11 n14) (oB r14 fun n15 => ix (mI u11 x0 64) (mN u11 n15) (lt (sI u11 n15 (xN (mI u11 x0 64)) (mI u11 n14 (xN x2))) fun u12 => lt (mR u12 x0 61) fun r16 => lt (mR u12 x0 22) fun r17 => oB r17 fun n16 => ix x2 (mN u12 n16) (bd (f_X3_strengthOf x0 x2 (mI u12 n16 (xN x2)) u12) fun v4 u13 => oB r16 fun n17 => ix (mI u12 x0 64) (mN u13 n17) (lt (sI u13 n17 (xN (mI u12 x0 64)) v4) fun u14 => lt (mR u14 x0 62) fun r18 => lt (mR u14 x0 65) fun r19 => oB r19 fun n18 => ix x2 (mN u14 n18) (oB r18 fun n19 => ix (mI u14 x0 64) (mN u14 n19) (lt (sI u14 n19 (xN (mI u14 x0 64)) (mI u14 n18 (xN x2))) fun u15 => lt (mR u15 x0 63) fun r20 => lt (mR u15 x0 65) fun r21 => oB r21 fun n20 => ix x2 (mN u15 n20) (oB r20 fun n21 => ix (mI u15 x0 64) (mN u15 n21) (lt (sI u15 n21 (xN (mI u15 x0 64)) (mI u15 n20 (xN x2))) fun u16 => lt (sI u16 x0 64 ((mI u16 x0 64) + 1)) fun u17 => j1 u17))))))))))))))))))))
section
variable {c0 s0 : Nat} {tbv : List ExceptionTableEntry}
set_option maxHeartbeats 4000000 in
theorem g_X3_lays_L61 (x0 : Nat) (t_x0 : kd x0 = 3) : ∀ (n : Nat) (x2 : Int32) (u : zM), Go RX3 cX3_lays 3 (none) false 3 46 [] (obT) (zQ rvV) c0 s0 61 [(0, .ref x0), (2, .int x2)] [] [] u (f_X3_lays_L61 x0 n x2 u) := by
  intro n
  induction n with
  | zero => intros; exact go_none
  | succ n ih =>
    intro x2 u
    unfold f_X3_lays_L61
    refine go_iload_n (pc := 61) (j := 2) (i := 2) dX3_lays_61 rfl rfl ?_
    refine go_aload_n (pc := 62) (j := 0) (i := 0) dX3_lays_62 rfl rfl ?_
    refine go_getI (pc := 63) (n := x0) (ci := 3) (k := 2) fa_X3_278_3 t_x0 rfl dX3_lays_63 ?_
    refine go_icmp_ge (pc := 66) (tgt := 233) dX3_lays_66 (by decide) (fun h2 => ?_) (fun h2 => ?_)
    · exact go_vreturn (pc := 233) rfl dX3_lays_233
    · refine go_aload_n (pc := 69) (j := 0) (i := 0) dX3_lays_69 rfl rfl ?_
      refine go_getR (pc := 70) (n := x0) (ci := 3) (k := 36) (t := 13) fa_X3_112_3 t_x0 rfl dX3_lays_70 fun r5 t_r5 => ?_
      refine go_iload_n (pc := 73) (j := 2) (i := 2) dX3_lays_73 rfl rfl ?_
      refine go_oB fun n5 e_n5 => ?_
      have t_n5 := t_r5 n5 e_n5
      subst e_n5
      refine go_dup2 (pc := 74) dX3_lays_74 ?_
      refine go_iald (pc := 75) t_n5 dX3_lays_75 ?_
      refine go_aload_n (pc := 76) (j := 0) (i := 0) dX3_lays_76 rfl rfl ?_
      refine go_getR (pc := 77) (n := x0) (ci := 3) (k := 21) (t := 13) fa_X3_66_3 t_x0 rfl dX3_lays_77 fun r6 t_r6 => ?_
      refine go_iload_n (pc := 80) (j := 2) (i := 2) dX3_lays_80 rfl rfl ?_
      refine go_oB fun n6 e_n6 => ?_
      have t_n6 := t_r6 n6 e_n6
      subst e_n6
      refine go_iald (pc := 81) t_n6 dX3_lays_81 ?_
      refine go_aload_n (pc := 82) (j := 0) (i := 0) dX3_lays_82 rfl rfl ?_
      refine go_getR (pc := 83) (n := x0) (ci := 3) (k := 3) (t := 23) fa_X3_11_3 t_x0 rfl dX3_lays_83 fun r7 t_r7 => ?_
      refine go_aload_n (pc := 86) (j := 0) (i := 0) dX3_lays_86 rfl rfl ?_
      refine go_getR (pc := 87) (n := x0) (ci := 3) (k := 20) (t := 13) fa_X3_63_3 t_x0 rfl dX3_lays_87 fun r8 t_r8 => ?_
      refine go_iload_n (pc := 90) (j := 2) (i := 2) dX3_lays_90 rfl rfl ?_
      refine go_oB fun n7 e_n7 => ?_
      have t_n7 := t_r8 n7 e_n7
      subst e_n7
      refine go_iald (pc := 91) t_n7 dX3_lays_91 ?_
      refine go_oB fun n8 e_n8 => ?_
      have t_n8 := t_r7 n8 e_n8
      subst e_n8
      refine go_aald (pc := 92) (n := n8) (ci := 23) (t := 13) (by decide) (by decide) t_n8 rfl dX3_lays_92 fun r9 t_r9 => ?_
      refine go_aload_n (pc := 93) (j := 0) (i := 0) dX3_lays_93 rfl rfl ?_
      refine go_getI (pc := 94) (n := x0) (ci := 3) (k := 0) fa_X3_286_3 t_x0 rfl dX3_lays_94 ?_
      refine go_callSI (pc := 97) (ct_X3_season (mI u x0 0)) lk_X3_436 rfl ⟨by decide, by decide⟩ (by simp [cat_rf, cat_int, cat_ref, cat_long]) dX3_lays_97 rfl fun v3 u7 => ?_
      refine go_oB fun n9 e_n9 => ?_
      have t_n9 := t_r9 n9 e_n9
      subst e_n9
      refine go_iald (pc := 100) t_n9 dX3_lays_100 ?_
      refine go_imul (pc := 101) dX3_lays_101 ?_
      refine go_bipush (pc := 102) (v := 10) dX3_lays_102 (by decide) ?_
      refine go_aload_n (pc := 104) (j := 0) (i := 0) dX3_lays_104 rfl rfl ?_
      refine go_getR (pc := 105) (n := x0) (ci := 3) (k := 22) (t := 13) fa_X3_69_3 t_x0 rfl dX3_lays_105 fun r10 t_r10 => ?_
      refine go_iload_n (pc := 108) (j := 2) (i := 2) dX3_lays_108 rfl rfl ?_
      refine go_oB fun n10 e_n10 => ?_
      have t_n10 := t_r10 n10 e_n10
      subst e_n10
      refine go_iald (pc := 109) t_n10 dX3_lays_109 ?_
      refine go_iadd (pc := 110) dX3_lays_110 ?_
      refine go_imul (pc := 111) dX3_lays_111 ?_
      refine go_bipush (pc := 112) (v := 24) dX3_lays_112 (by decide) ?_
      refine go_idiv (pc := 114) dX3_lays_114 (by decide) ?_
      refine go_iadd (pc := 115) dX3_lays_115 ?_
      refine go_iast (pc := 116) t_n5 dX3_lays_116 fun u8 => ?_
      refine go_aload_n (pc := 117) (j := 0) (i := 0) dX3_lays_117 rfl rfl ?_
      refine go_getR (pc := 118) (n := x0) (ci := 3) (k := 65) (t := 13) fa_X3_203_3 t_x0 rfl dX3_lays_118 fun r11 t_r11 => ?_
      refine go_iload_n (pc := 121) (j := 2) (i := 2) dX3_lays_121 rfl rfl ?_
      refine go_oB fun n11 e_n11 => ?_
      have t_n11 := t_r11 n11 e_n11
      subst e_n11
      refine go_iald (pc := 122) t_n11 dX3_lays_122 ?_
      refine go_join0 (pcx := 227) ([(0, .ref x0), (2, .int x2)]) ([]) ([]) (True) (fun u9 _ => ?_) (fun j1 hj1 => ?_)
      · refine go_iinc (pc := 227) (i := 2) (w := 1) (A' := [(0, .ref x0), (2, .int (x2 + 1))]) rfl (by decide) (by decide) rfl rfl rfl dX3_lays_227 ?_
        refine go_goto (pc := 230) (tgt := 61) dX3_lays_230 (by decide) ?_
        exact go_weak (A' := [(0, .ref x0), (2, .int (x2 + 1))]) (B' := []) ⟨rfl, rfl, trivial⟩ rfl (fun q h => by cases h) (ih (x2 + 1) u9)
      · refine go_if_ne (pc := 123) (tgt := 129) dX3_lays_123 (by decide) (fun h3 => ?_) (fun h3 => ?_)
        · refine go_goto (pc := 126) (tgt := 227) dX3_lays_126 (by decide) ?_
          exact go_weak (A' := [(0, .ref x0), (2, .int x2)]) (B' := []) ⟨rfl, rfl, trivial⟩ rfl (fun q h => by cases h) (hj1 u8 trivial)
        · refine go_aload_n (pc := 129) (j := 0) (i := 0) dX3_lays_129 rfl rfl ?_
          refine go_getR (pc := 130) (n := x0) (ci := 3) (k := 58) (t := 13) fa_X3_185_3 t_x0 rfl dX3_lays_130 fun r12 t_r12 => ?_
          refine go_aload_n (pc := 133) (j := 0) (i := 0) dX3_lays_133 rfl rfl ?_
          refine go_getI (pc := 134) (n := x0) (ci := 3) (k := 64) fa_X3_451_3 t_x0 rfl dX3_lays_134 ?_
          refine go_iload_n (pc := 137) (j := 2) (i := 2) dX3_lays_137 rfl rfl ?_
          refine go_oB fun n12 e_n12 => ?_
          have t_n12 := t_r12 n12 e_n12
          subst e_n12
          refine go_iast (pc := 138) t_n12 dX3_lays_138 fun u10 => ?_
          refine go_aload_n (pc := 139) (j := 0) (i := 0) dX3_lays_139 rfl rfl ?_
          refine go_getR (pc := 140) (n := x0) (ci := 3) (k := 59) (t := 13) fa_X3_188_3 t_x0 rfl dX3_lays_140 fun r13 t_r13 => ?_
          refine go_aload_n (pc := 143) (j := 0) (i := 0) dX3_lays_143 rfl rfl ?_
          refine go_getI (pc := 144) (n := x0) (ci := 3) (k := 64) fa_X3_451_3 t_x0 rfl dX3_lays_144 ?_
          refine go_aload_n (pc := 147) (j := 0) (i := 0) dX3_lays_147 rfl rfl ?_
          refine go_getI (pc := 148) (n := x0) (ci := 3) (k := 0) fa_X3_286_3 t_x0 rfl dX3_lays_148 ?_
          refine go_oB fun n13 e_n13 => ?_
          have t_n13 := t_r13 n13 e_n13
          subst e_n13
          refine go_iast (pc := 151) t_n13 dX3_lays_151 fun u11 => ?_
          refine go_aload_n (pc := 152) (j := 0) (i := 0) dX3_lays_152 rfl rfl ?_
          refine go_getR (pc := 153) (n := x0) (ci := 3) (k := 60) (t := 13) fa_X3_191_3 t_x0 rfl dX3_lays_153 fun r14 t_r14 => ?_
          refine go_aload_n (pc := 156) (j := 0) (i := 0) dX3_lays_156 rfl rfl ?_
          refine go_getI (pc := 157) (n := x0) (ci := 3) (k := 64) fa_X3_451_3 t_x0 rfl dX3_lays_157 ?_
          refine go_aload_n (pc := 160) (j := 0) (i := 0) dX3_lays_160 rfl rfl ?_
          refine go_getR (pc := 161) (n := x0) (ci := 3) (k := 26) (t := 13) fa_X3_81_3 t_x0 rfl dX3_lays_161 fun r15 t_r15 => ?_
          refine go_iload_n (pc := 164) (j := 2) (i := 2) dX3_lays_164 rfl rfl ?_
          refine go_oB fun n14 e_n14 => ?_
          have t_n14 := t_r15 n14 e_n14
          subst e_n14
          refine go_iald (pc := 165) t_n14 dX3_lays_165 ?_
          refine go_oB fun n15 e_n15 => ?_
          have t_n15 := t_r14 n15 e_n15
          subst e_n15
          refine go_iast (pc := 166) t_n15 dX3_lays_166 fun u12 => ?_
          refine go_aload_n (pc := 167) (j := 0) (i := 0) dX3_lays_167 rfl rfl ?_
          refine go_getR (pc := 168) (n := x0) (ci := 3) (k := 61) (t := 13) fa_X3_194_3 t_x0 rfl dX3_lays_168 fun r16 t_r16 => ?_
          refine go_aload_n (pc := 171) (j := 0) (i := 0) dX3_lays_171 rfl rfl ?_
          refine go_getI (pc := 172) (n := x0) (ci := 3) (k := 64) fa_X3_451_3 t_x0 rfl dX3_lays_172 ?_
          refine go_aload_n (pc := 175) (j := 0) (i := 0) dX3_lays_175 rfl rfl ?_
          refine go_iload_n (pc := 176) (j := 2) (i := 2) dX3_lays_176 rfl rfl ?_
          refine go_aload_n (pc := 177) (j := 0) (i := 0) dX3_lays_177 rfl rfl ?_
          refine go_getR (pc := 178) (n := x0) (ci := 3) (k := 22) (t := 13) fa_X3_69_3 t_x0 rfl dX3_lays_178 fun r17 t_r17 => ?_
          refine go_iload_n (pc := 181) (j := 2) (i := 2) dX3_lays_181 rfl rfl ?_
          refine go_oB fun n16 e_n16 => ?_
          have t_n16 := t_r17 n16 e_n16
          subst e_n16
          refine go_iald (pc := 182) t_n16 dX3_lays_182 ?_
          refine go_callVI (pc := 183) (ci := 3) (ct_X3_strengthOf x0 x2 (mI u12 n16 (xN x2)) t_x0) lk_X3_463 rfl rfl rfl (by decide) t_x0 ⟨by decide, by decide⟩ (by simp [cat_rf, cat_int, cat_ref, cat_long]) dX3_lays_183 rfl fun v4 u13 => ?_
          refine go_oB fun n17 e_n17 => ?_
          have t_n17 := t_r16 n17 e_n17
          subst e_n17
          refine go_iast (pc := 186) t_n17 dX3_lays_186 fun u14 => ?_
          refine go_aload_n (pc := 187) (j := 0) (i := 0) dX3_lays_187 rfl rfl ?_
          refine go_getR (pc := 188) (n := x0) (ci := 3) (k := 62) (t := 13) fa_X3_197_3 t_x0 rfl dX3_lays_188 fun r18 t_r18 => ?_
          refine go_aload_n (pc := 191) (j := 0) (i := 0) dX3_lays_191 rfl rfl ?_
          refine go_getI (pc := 192) (n := x0) (ci := 3) (k := 64) fa_X3_451_3 t_x0 rfl dX3_lays_192 ?_
          refine go_aload_n (pc := 195) (j := 0) (i := 0) dX3_lays_195 rfl rfl ?_
          refine go_getR (pc := 196) (n := x0) (ci := 3) (k := 65) (t := 13) fa_X3_203_3 t_x0 rfl dX3_lays_196 fun r19 t_r19 => ?_
          refine go_iload_n (pc := 199) (j := 2) (i := 2) dX3_lays_199 rfl rfl ?_
          refine go_oB fun n18 e_n18 => ?_
          have t_n18 := t_r19 n18 e_n18
          subst e_n18
          refine go_iald (pc := 200) t_n18 dX3_lays_200 ?_
          refine go_oB fun n19 e_n19 => ?_
          have t_n19 := t_r18 n19 e_n19
          subst e_n19
          refine go_iast (pc := 201) t_n19 dX3_lays_201 fun u15 => ?_
          refine go_aload_n (pc := 202) (j := 0) (i := 0) dX3_lays_202 rfl rfl ?_
          refine go_getR (pc := 203) (n := x0) (ci := 3) (k := 63) (t := 13) fa_X3_200_3 t_x0 rfl dX3_lays_203 fun r20 t_r20 => ?_
          refine go_aload_n (pc := 206) (j := 0) (i := 0) dX3_lays_206 rfl rfl ?_
          refine go_getI (pc := 207) (n := x0) (ci := 3) (k := 64) fa_X3_451_3 t_x0 rfl dX3_lays_207 ?_
          refine go_aload_n (pc := 210) (j := 0) (i := 0) dX3_lays_210 rfl rfl ?_
          refine go_getR (pc := 211) (n := x0) (ci := 3) (k := 65) (t := 13) fa_X3_203_3 t_x0 rfl dX3_lays_211 fun r21 t_r21 => ?_
          refine go_iload_n (pc := 214) (j := 2) (i := 2) dX3_lays_214 rfl rfl ?_
          refine go_oB fun n20 e_n20 => ?_
          have t_n20 := t_r21 n20 e_n20
          subst e_n20
          refine go_iald (pc := 215) t_n20 dX3_lays_215 ?_
          refine go_oB fun n21 e_n21 => ?_
          have t_n21 := t_r20 n21 e_n21
          subst e_n21
          refine go_iast (pc := 216) t_n21 dX3_lays_216 fun u16 => ?_
          refine go_aload_n (pc := 217) (j := 0) (i := 0) dX3_lays_217 rfl rfl ?_
          refine go_dupA (pc := 218) dX3_lays_218 ?_
          refine go_getI (pc := 219) (n := x0) (ci := 3) (k := 64) fa_X3_451_3 t_x0 rfl dX3_lays_219 ?_
          refine go_iconst (pc := 222) (v := 1) dX3_lays_222 (by decide) ?_
          refine go_iadd (pc := 223) dX3_lays_223 ?_
          refine go_putI (pc := 224) (n := x0) (ci := 3) (k := 64) (v := ((mI u16 x0 64) + 1)) pa_X3_451_3 (fun h => by cases h) t_x0 rfl zKeep_int dX3_lays_224 fun u17 => ?_
          exact go_weak (A' := [(0, .ref x0), (2, .int x2)]) (B' := []) ⟨rfl, rfl, trivial⟩ rfl (fun q h => by cases h) (hj1 u17 trivial)
end
def f_X3_lays (self : Nat) (u : zM) : Option (Unit × zM) := bd (f_X3_asIs self u) fun v1 u1 => bd (f_X3_spins self u1) fun v2 u2 => lt (mR u2 self 91) fun r1 => oB r1 fun n1 => ix (mI u2 self 0) (mN u2 n1) (lt (mR u2 n1 (xN (mI u2 self 0))) fun r2 => oB r2 fun n2 => ix 1 (mN u2 n2) (lt (sI u2 n2 (xN 1) v2) fun u3 => lt (sI u3 self 71 ((mI u3 self 71) + v2)) fun u4 => f_X3_lays_L33 self (fun u6 => f_X3_lays_L61 self zFu 0 u6) zFu 0 u4))
set_option maxHeartbeats 4000000 in
theorem ct_X3_lays (self : Nat) (t_self : kd self = 3) : zMet yX3_lays cX3_lays 3 (none) 3 46 rvV (obT) [.ref self] (f_X3_lays self) := by
  refine zMet_of (A := [(0, .ref self)]) (B := []) (ini := false) RX3 rfl (by decide +kernel) (fun h => by cases h) (by simp [lg_sl, Value.category]) (by simp [lv_args, Value.category]) rfl (by simp [lv_args, Value.category]) fun u => ?_
  unfold f_X3_lays
  refine go_aload_n (pc := 0) (j := 0) (i := 0) dX3_lays_0 rfl rfl ?_
  refine go_callVV (pc := 1) (ci := 3) (ct_X3_asIs self t_self) lk_X3_454 rfl rfl rfl (by decide) t_self ⟨by decide, by decide⟩ (Nat.le_of_ble_eq_true rfl) dX3_lays_1 rfl fun v1 u1 => ?_
  refine go_aload_n (pc := 4) (j := 0) (i := 0) dX3_lays_4 rfl rfl ?_
  refine go_callVI (pc := 5) (ci := 3) (ct_X3_spins self t_self) lk_X3_457 rfl rfl rfl (by decide) t_self ⟨by decide, by decide⟩ (Nat.le_of_ble_eq_true rfl) dX3_lays_5 rfl fun v2 u2 => ?_
  refine go_istore_n (pc := 8) (j := 1) (i := 1) (A' := [(0, .ref self), (1, .int v2)]) rfl (by decide) rfl rfl rfl dX3_lays_8 ?_
  refine go_aload_n (pc := 9) (j := 0) (i := 0) dX3_lays_9 rfl rfl ?_
  refine go_getR (pc := 10) (n := self) (ci := 3) (k := 91) (t := 23) fa_X3_255_3 t_self rfl dX3_lays_10 fun r1 t_r1 => ?_
  refine go_aload_n (pc := 13) (j := 0) (i := 0) dX3_lays_13 rfl rfl ?_
  refine go_getI (pc := 14) (n := self) (ci := 3) (k := 0) fa_X3_286_3 t_self rfl dX3_lays_14 ?_
  refine go_oB fun n1 e_n1 => ?_
  have t_n1 := t_r1 n1 e_n1
  subst e_n1
  refine go_aald (pc := 17) (n := n1) (ci := 23) (t := 13) (by decide) (by decide) t_n1 rfl dX3_lays_17 fun r2 t_r2 => ?_
  refine go_iconst (pc := 18) (v := 1) dX3_lays_18 (by decide) ?_
  refine go_iload_n (pc := 19) (j := 1) (i := 1) dX3_lays_19 rfl rfl ?_
  refine go_oB fun n2 e_n2 => ?_
  have t_n2 := t_r2 n2 e_n2
  subst e_n2
  refine go_iast (pc := 20) t_n2 dX3_lays_20 fun u3 => ?_
  refine go_aload_n (pc := 21) (j := 0) (i := 0) dX3_lays_21 rfl rfl ?_
  refine go_dupA (pc := 22) dX3_lays_22 ?_
  refine go_getI (pc := 23) (n := self) (ci := 3) (k := 71) fa_X3_460_3 t_self rfl dX3_lays_23 ?_
  refine go_iload_n (pc := 26) (j := 1) (i := 1) dX3_lays_26 rfl rfl ?_
  refine go_iadd (pc := 27) dX3_lays_27 ?_
  refine go_putI (pc := 28) (n := self) (ci := 3) (k := 71) (v := ((mI u3 self 71) + v2)) pa_X3_460_3 (fun h => by cases h) t_self rfl zKeep_int dX3_lays_28 fun u4 => ?_
  refine go_iconst (pc := 31) (v := 0) dX3_lays_31 (by decide) ?_
  refine go_istore_n (pc := 32) (j := 2) (i := 2) (A' := [(0, .ref self), (1, .int v2), (2, .int 0)]) rfl (by decide) rfl rfl rfl dX3_lays_32 ?_
  refine go_weak (A' := [(0, .ref self), (2, .int 0)]) (B' := []) ⟨rfl, rfl, trivial⟩ rfl (fun q h => by cases h) (g_X3_lays_L33 self _ t_self ?_ zFu 0 u4)
  · intro u6
    refine go_iconst (pc := 59) (v := 0) dX3_lays_59 (by decide) ?_
    refine go_istore_n (pc := 60) (j := 2) (i := 2) (A' := [(0, .ref self), (2, .int 0)]) rfl (by decide) rfl rfl rfl dX3_lays_60 ?_
    exact go_weak (A' := [(0, .ref self), (2, .int 0)]) (B' := []) ⟨rfl, rfl, trivial⟩ rfl (fun q h => by cases h) (g_X3_lays_L61 self t_self zFu 0 u6)

def f_X3_buys (self : Nat) (p0 : Int32) (u : zM) : Option (Unit × zM) := lt (mR u self 20) fun r1 => oB r1 fun n1 => ix p0 (mN u n1) (bd (f_X3_likes self p0 u) fun v1 u1 => if v1 = (-1) then (lt (mR u1 self 27) fun r2 => oB r2 fun n2 => ix p0 (mN u1 n2) (ix p0 (mN u1 n2) (lt (sI u1 n2 (xN p0) ((mI u1 n2 (xN p0)) + 1)) fun u2 => some ((), u2)))) else (if v1 = 0 then (lt (mR u1 self 25) fun r3 => oB r3 fun n3 => ix p0 (mN u1 n3) (lt (mR u1 self 11) fun r4 => oB r4 fun n4 => ix (mI u n1 (xN p0)) (mN u1 n4) (ix p0 (mN u1 n3) (lt (sI u1 n3 (xN p0) ((mI u1 n3 (xN p0)) - (mI u1 n4 (xN (mI u n1 (xN p0)))))) fun u3 => lt (mR u3 self 14) fun r5 => oB r5 fun n5 => ix (mI u n1 (xN p0)) (mN u3 n5) (lt (mR u3 self 11) fun r6 => oB r6 fun n6 => ix (mI u n1 (xN p0)) (mN u3 n6) (ix (mI u n1 (xN p0)) (mN u3 n5) (lt (sI u3 n5 (xN (mI u n1 (xN p0))) ((mI u3 n5 (xN (mI u n1 (xN p0)))) + (mI u3 n6 (xN (mI u n1 (xN p0)))))) fun u4 => lt (mR u4 self 28) fun r7 => oB r7 fun n7 => ix p0 (mN u4 n7) (ix p0 (mN u4 n7) (lt (sI u4 n7 (xN p0) ((mI u4 n7 (xN p0)) + 1)) fun u5 => lt (mR u5 self 8) fun r8 => oB r8 fun n8 => ix (mI u n1 (xN p0)) (mN u5 n8) (if (mI u5 n8 (xN (mI u n1 (xN p0)))) ≤ 0 then (lt (mR u5 self 9) fun r9 => oB r9 fun n9 => ix (mI u n1 (xN p0)) (mN u5 n9) (ix (mI u n1 (xN p0)) (mN u5 n9) (lt (sI u5 n9 (xN (mI u n1 (xN p0))) ((mI u5 n9 (xN (mI u n1 (xN p0)))) - 1)) fun u6 => some ((), u6)))) else (lt (mR u5 self 8) fun r10 => oB r10 fun n10 => ix (mI u n1 (xN p0)) (mN u5 n10) (ix (mI u n1 (xN p0)) (mN u5 n10) (lt (sI u5 n10 (xN (mI u n1 (xN p0))) ((mI u5 n10 (xN (mI u n1 (xN p0)))) - 1)) fun u7 => lt (mR u7 self 17) fun r11 => oB r11 fun n11 => ix (mI u n1 (xN p0)) (mN u7 n11) (ix (mI u n1 (xN p0)) (mN u7 n11) (lt (sI u7 n11 (xN (mI u n1 (xN p0))) ((mI u7 n11 (xN (mI u n1 (xN p0)))) + 1)) fun u8 => some ((), u8)))))))))))))))) else (bd (f_X3_dutyAt self (mI u n1 (xN p0)) u1) fun v2 u9 => lt (mR u9 self 25) fun r12 => oB r12 fun n12 => ix p0 (mN u9 n12) (lt (mR u9 self 12) fun r13 => oB r13 fun n13 => ix (mI u n1 (xN p0)) (mN u9 n13) (ix p0 (mN u9 n12) (lt (sI u9 n12 (xN p0) ((mI u9 n12 (xN p0)) - ((mI u9 n13 (xN (mI u n1 (xN p0)))) + v2))) fun u10 => lt (mR u10 self 14) fun r14 => oB r14 fun n14 => ix (mI u n1 (xN p0)) (mN u10 n14) (lt (mR u10 self 12) fun r15 => oB r15 fun n15 => ix (mI u n1 (xN p0)) (mN u10 n15) (ix (mI u n1 (xN p0)) (mN u10 n14) (lt (sI u10 n14 (xN (mI u n1 (xN p0))) ((mI u10 n14 (xN (mI u n1 (xN p0)))) + (mI u10 n15 (xN (mI u n1 (xN p0)))))) fun u11 => lt (sI u11 self 38 ((mI u11 self 38) + v2)) fun u12 => lt (mR u12 self 29) fun r16 => oB r16 fun n16 => ix p0 (mN u12 n16) (ix p0 (mN u12 n16) (lt (sI u12 n16 (xN p0) ((mI u12 n16 (xN p0)) + 1)) fun u13 => lt (mR u13 self 10) fun r17 => oB r17 fun n17 => ix (mI u n1 (xN p0)) (mN u13 n17) (ix (mI u n1 (xN p0)) (mN u13 n17) (lt (sI u13 n17 (xN (mI u n1 (xN p0))) ((mI u13 n17 (xN (mI u n1 (xN p0)))) - 1)) fun u14 => lt (mR u14 self 18) fun r18 => oB r18 fun n18 => ix (mI u n1 (xN p0)) (mN u14 n18) (ix (mI u n1 (xN p0)) (mN u14 n18) (lt (sI u14 n18 (xN (mI u n1 (xN p0))) ((mI u14 n18 (xN (mI u n1 (xN p0)))) + 1)) fun u15 => some ((), u15))))))))))))))))
set_option maxHeartbeats 4000000 in
theorem ct_X3_buys (self : Nat) (p0 : Int32) (t_self : kd self = 3) : zMet yX3_buys cX3_buys 5 (none) 7 135 rvV (obT) [.ref self, .int p0] (f_X3_buys self p0) := by
  refine zMet_of (A := [(0, .ref self), (1, .int p0)]) (B := []) (ini := false) RX3 rfl (by decide +kernel) (fun h => by cases h) (by simp [lg_sl, Value.category]) (by simp [lv_args, Value.category]) rfl (by simp [lv_args, Value.category]) fun u => ?_
  unfold f_X3_buys
  refine go_aload_n (pc := 0) (j := 0) (i := 0) dX3_buys_0 rfl rfl ?_
  refine go_getR (pc := 1) (n := self) (ci := 3) (k := 20) (t := 13) fa_X3_63_3 t_self rfl dX3_buys_1 fun r1 t_r1 => ?_
  refine go_iload_n (pc := 4) (j := 1) (i := 1) dX3_buys_4 rfl rfl ?_
  refine go_oB fun n1 e_n1 => ?_
  have t_n1 := t_r1 n1 e_n1
  subst e_n1
  refine go_iald (pc := 5) t_n1 dX3_buys_5 ?_
  refine go_istore_n (pc := 6) (j := 2) (i := 2) (A' := [(0, .ref self), (1, .int p0), (2, .int (mI u n1 (xN p0)))]) rfl (by decide) rfl rfl rfl dX3_buys_6 ?_
  refine go_aload_n (pc := 7) (j := 0) (i := 0) dX3_buys_7 rfl rfl ?_
  refine go_iload_n (pc := 8) (j := 1) (i := 1) dX3_buys_8 rfl rfl ?_
  refine go_callVI (pc := 9) (ci := 3) (ct_X3_likes self p0 t_self) lk_X3_543 rfl rfl rfl (by decide) t_self ⟨by decide, by decide⟩ (Nat.le_of_ble_eq_true rfl) dX3_buys_9 rfl fun v1 u1 => ?_
  refine go_istore_n (pc := 12) (j := 3) (i := 3) (A' := [(0, .ref self), (1, .int p0), (2, .int (mI u n1 (xN p0))), (3, .int v1)]) rfl (by decide) rfl rfl rfl dX3_buys_12 ?_
  refine go_iload_n (pc := 13) (j := 3) (i := 3) dX3_buys_13 rfl rfl ?_
  refine go_iconst (pc := 14) (v := (-1)) dX3_buys_14 (by decide) ?_
  refine go_icmp_ne (pc := 15) (tgt := 31) dX3_buys_15 (by decide) (fun h1 => ?_) (fun h1 => ?_)
  · refine go_aload_n (pc := 18) (j := 0) (i := 0) dX3_buys_18 rfl rfl ?_
    refine go_getR (pc := 19) (n := self) (ci := 3) (k := 27) (t := 13) fa_X3_84_3 t_self rfl dX3_buys_19 fun r2 t_r2 => ?_
    refine go_iload_n (pc := 22) (j := 1) (i := 1) dX3_buys_22 rfl rfl ?_
    refine go_oB fun n2 e_n2 => ?_
    have t_n2 := t_r2 n2 e_n2
    subst e_n2
    refine go_dup2 (pc := 23) dX3_buys_23 ?_
    refine go_iald (pc := 24) t_n2 dX3_buys_24 ?_
    refine go_iconst (pc := 25) (v := 1) dX3_buys_25 (by decide) ?_
    refine go_iadd (pc := 26) dX3_buys_26 ?_
    refine go_iast (pc := 27) t_n2 dX3_buys_27 fun u2 => ?_
    refine go_goto (pc := 28) (tgt := 201) dX3_buys_28 (by decide) ?_
    exact go_vreturn (pc := 201) rfl dX3_buys_201
  · refine go_iload_n (pc := 31) (j := 3) (i := 3) dX3_buys_31 rfl rfl ?_
    refine go_if_ne (pc := 32) (tgt := 120) dX3_buys_32 (by decide) (fun h2 => ?_) (fun h2 => ?_)
    · refine go_aload_n (pc := 35) (j := 0) (i := 0) dX3_buys_35 rfl rfl ?_
      refine go_getR (pc := 36) (n := self) (ci := 3) (k := 25) (t := 13) fa_X3_78_3 t_self rfl dX3_buys_36 fun r3 t_r3 => ?_
      refine go_iload_n (pc := 39) (j := 1) (i := 1) dX3_buys_39 rfl rfl ?_
      refine go_oB fun n3 e_n3 => ?_
      have t_n3 := t_r3 n3 e_n3
      subst e_n3
      refine go_dup2 (pc := 40) dX3_buys_40 ?_
      refine go_iald (pc := 41) t_n3 dX3_buys_41 ?_
      refine go_aload_n (pc := 42) (j := 0) (i := 0) dX3_buys_42 rfl rfl ?_
      refine go_getR (pc := 43) (n := self) (ci := 3) (k := 11) (t := 13) fa_X3_36_3 t_self rfl dX3_buys_43 fun r4 t_r4 => ?_
      refine go_iload_n (pc := 46) (j := 2) (i := 2) dX3_buys_46 rfl rfl ?_
      refine go_oB fun n4 e_n4 => ?_
      have t_n4 := t_r4 n4 e_n4
      subst e_n4
      refine go_iald (pc := 47) t_n4 dX3_buys_47 ?_
      refine go_isub (pc := 48) dX3_buys_48 ?_
      refine go_iast (pc := 49) t_n3 dX3_buys_49 fun u3 => ?_
      refine go_aload_n (pc := 50) (j := 0) (i := 0) dX3_buys_50 rfl rfl ?_
      refine go_getR (pc := 51) (n := self) (ci := 3) (k := 14) (t := 13) fa_X3_45_3 t_self rfl dX3_buys_51 fun r5 t_r5 => ?_
      refine go_iload_n (pc := 54) (j := 2) (i := 2) dX3_buys_54 rfl rfl ?_
      refine go_oB fun n5 e_n5 => ?_
      have t_n5 := t_r5 n5 e_n5
      subst e_n5
      refine go_dup2 (pc := 55) dX3_buys_55 ?_
      refine go_iald (pc := 56) t_n5 dX3_buys_56 ?_
      refine go_aload_n (pc := 57) (j := 0) (i := 0) dX3_buys_57 rfl rfl ?_
      refine go_getR (pc := 58) (n := self) (ci := 3) (k := 11) (t := 13) fa_X3_36_3 t_self rfl dX3_buys_58 fun r6 t_r6 => ?_
      refine go_iload_n (pc := 61) (j := 2) (i := 2) dX3_buys_61 rfl rfl ?_
      refine go_oB fun n6 e_n6 => ?_
      have t_n6 := t_r6 n6 e_n6
      subst e_n6
      refine go_iald (pc := 62) t_n6 dX3_buys_62 ?_
      refine go_iadd (pc := 63) dX3_buys_63 ?_
      refine go_iast (pc := 64) t_n5 dX3_buys_64 fun u4 => ?_
      refine go_aload_n (pc := 65) (j := 0) (i := 0) dX3_buys_65 rfl rfl ?_
      refine go_getR (pc := 66) (n := self) (ci := 3) (k := 28) (t := 13) fa_X3_87_3 t_self rfl dX3_buys_66 fun r7 t_r7 => ?_
      refine go_iload_n (pc := 69) (j := 1) (i := 1) dX3_buys_69 rfl rfl ?_
      refine go_oB fun n7 e_n7 => ?_
      have t_n7 := t_r7 n7 e_n7
      subst e_n7
      refine go_dup2 (pc := 70) dX3_buys_70 ?_
      refine go_iald (pc := 71) t_n7 dX3_buys_71 ?_
      refine go_iconst (pc := 72) (v := 1) dX3_buys_72 (by decide) ?_
      refine go_iadd (pc := 73) dX3_buys_73 ?_
      refine go_iast (pc := 74) t_n7 dX3_buys_74 fun u5 => ?_
      refine go_aload_n (pc := 75) (j := 0) (i := 0) dX3_buys_75 rfl rfl ?_
      refine go_getR (pc := 76) (n := self) (ci := 3) (k := 8) (t := 13) fa_X3_27_3 t_self rfl dX3_buys_76 fun r8 t_r8 => ?_
      refine go_iload_n (pc := 79) (j := 2) (i := 2) dX3_buys_79 rfl rfl ?_
      refine go_oB fun n8 e_n8 => ?_
      have t_n8 := t_r8 n8 e_n8
      subst e_n8
      refine go_iald (pc := 80) t_n8 dX3_buys_80 ?_
      refine go_if_le (pc := 81) (tgt := 107) dX3_buys_81 (by decide) (fun h3 => ?_) (fun h3 => ?_)
      · refine go_aload_n (pc := 107) (j := 0) (i := 0) dX3_buys_107 rfl rfl ?_
        refine go_getR (pc := 108) (n := self) (ci := 3) (k := 9) (t := 13) fa_X3_30_3 t_self rfl dX3_buys_108 fun r9 t_r9 => ?_
        refine go_iload_n (pc := 111) (j := 2) (i := 2) dX3_buys_111 rfl rfl ?_
        refine go_oB fun n9 e_n9 => ?_
        have t_n9 := t_r9 n9 e_n9
        subst e_n9
        refine go_dup2 (pc := 112) dX3_buys_112 ?_
        refine go_iald (pc := 113) t_n9 dX3_buys_113 ?_
        refine go_iconst (pc := 114) (v := 1) dX3_buys_114 (by decide) ?_
        refine go_isub (pc := 115) dX3_buys_115 ?_
        refine go_iast (pc := 116) t_n9 dX3_buys_116 fun u6 => ?_
        refine go_goto (pc := 117) (tgt := 201) dX3_buys_117 (by decide) ?_
        exact go_vreturn (pc := 201) rfl dX3_buys_201
      · refine go_aload_n (pc := 84) (j := 0) (i := 0) dX3_buys_84 rfl rfl ?_
        refine go_getR (pc := 85) (n := self) (ci := 3) (k := 8) (t := 13) fa_X3_27_3 t_self rfl dX3_buys_85 fun r10 t_r10 => ?_
        refine go_iload_n (pc := 88) (j := 2) (i := 2) dX3_buys_88 rfl rfl ?_
        refine go_oB fun n10 e_n10 => ?_
        have t_n10 := t_r10 n10 e_n10
        subst e_n10
        refine go_dup2 (pc := 89) dX3_buys_89 ?_
        refine go_iald (pc := 90) t_n10 dX3_buys_90 ?_
        refine go_iconst (pc := 91) (v := 1) dX3_buys_91 (by decide) ?_
        refine go_isub (pc := 92) dX3_buys_92 ?_
        refine go_iast (pc := 93) t_n10 dX3_buys_93 fun u7 => ?_
        refine go_aload_n (pc := 94) (j := 0) (i := 0) dX3_buys_94 rfl rfl ?_
        refine go_getR (pc := 95) (n := self) (ci := 3) (k := 17) (t := 13) fa_X3_54_3 t_self rfl dX3_buys_95 fun r11 t_r11 => ?_
        refine go_iload_n (pc := 98) (j := 2) (i := 2) dX3_buys_98 rfl rfl ?_
        refine go_oB fun n11 e_n11 => ?_
        have t_n11 := t_r11 n11 e_n11
        subst e_n11
        refine go_dup2 (pc := 99) dX3_buys_99 ?_
        refine go_iald (pc := 100) t_n11 dX3_buys_100 ?_
        refine go_iconst (pc := 101) (v := 1) dX3_buys_101 (by decide) ?_
        refine go_iadd (pc := 102) dX3_buys_102 ?_
        refine go_iast (pc := 103) t_n11 dX3_buys_103 fun u8 => ?_
        refine go_goto (pc := 104) (tgt := 201) dX3_buys_104 (by decide) ?_
        exact go_vreturn (pc := 201) rfl dX3_buys_201
    · refine go_aload_n (pc := 120) (j := 0) (i := 0) dX3_buys_120 rfl rfl ?_
      refine go_iload_n (pc := 121) (j := 2) (i := 2) dX3_buys_121 rfl rfl ?_
      refine go_callVI (pc := 122) (ci := 3) (ct_X3_dutyAt self (mI u n1 (xN p0)) t_self) lk_X3_534 rfl rfl rfl (by decide) t_self ⟨by decide, by decide⟩ (Nat.le_of_ble_eq_true rfl) dX3_buys_122 rfl fun v2 u9 => ?_
      refine go_istore (pc := 125) (i := 4) (A' := [(0, .ref self), (1, .int p0), (2, .int (mI u n1 (xN p0))), (3, .int v1), (4, .int v2)]) (by decide) rfl rfl rfl dX3_buys_125 ?_
      refine go_aload_n (pc := 127) (j := 0) (i := 0) dX3_buys_127 rfl rfl ?_
      refine go_getR (pc := 128) (n := self) (ci := 3) (k := 25) (t := 13) fa_X3_78_3 t_self rfl dX3_buys_128 fun r12 t_r12 => ?_
      refine go_iload_n (pc := 131) (j := 1) (i := 1) dX3_buys_131 rfl rfl ?_
      refine go_oB fun n12 e_n12 => ?_
      have t_n12 := t_r12 n12 e_n12
      subst e_n12
      refine go_dup2 (pc := 132) dX3_buys_132 ?_
      refine go_iald (pc := 133) t_n12 dX3_buys_133 ?_
      refine go_aload_n (pc := 134) (j := 0) (i := 0) dX3_buys_134 rfl rfl ?_
      refine go_getR (pc := 135) (n := self) (ci := 3) (k := 12) (t := 13) fa_X3_39_3 t_self rfl dX3_buys_135 fun r13 t_r13 => ?_
      refine go_iload_n (pc := 138) (j := 2) (i := 2) dX3_buys_138 rfl rfl ?_
      refine go_oB fun n13 e_n13 => ?_
      have t_n13 := t_r13 n13 e_n13
      subst e_n13
      refine go_iald (pc := 139) t_n13 dX3_buys_139 ?_
      refine go_iload (pc := 140) (i := 4) dX3_buys_140 rfl ?_
      refine go_iadd (pc := 142) dX3_buys_142 ?_
      refine go_isub (pc := 143) dX3_buys_143 ?_
      refine go_iast (pc := 144) t_n12 dX3_buys_144 fun u10 => ?_
      refine go_aload_n (pc := 145) (j := 0) (i := 0) dX3_buys_145 rfl rfl ?_
      refine go_getR (pc := 146) (n := self) (ci := 3) (k := 14) (t := 13) fa_X3_45_3 t_self rfl dX3_buys_146 fun r14 t_r14 => ?_
      refine go_iload_n (pc := 149) (j := 2) (i := 2) dX3_buys_149 rfl rfl ?_
      refine go_oB fun n14 e_n14 => ?_
      have t_n14 := t_r14 n14 e_n14
      subst e_n14
      refine go_dup2 (pc := 150) dX3_buys_150 ?_
      refine go_iald (pc := 151) t_n14 dX3_buys_151 ?_
      refine go_aload_n (pc := 152) (j := 0) (i := 0) dX3_buys_152 rfl rfl ?_
      refine go_getR (pc := 153) (n := self) (ci := 3) (k := 12) (t := 13) fa_X3_39_3 t_self rfl dX3_buys_153 fun r15 t_r15 => ?_
      refine go_iload_n (pc := 156) (j := 2) (i := 2) dX3_buys_156 rfl rfl ?_
      refine go_oB fun n15 e_n15 => ?_
      have t_n15 := t_r15 n15 e_n15
      subst e_n15
      refine go_iald (pc := 157) t_n15 dX3_buys_157 ?_
      refine go_iadd (pc := 158) dX3_buys_158 ?_
      refine go_iast (pc := 159) t_n14 dX3_buys_159 fun u11 => ?_
      refine go_aload_n (pc := 160) (j := 0) (i := 0) dX3_buys_160 rfl rfl ?_
      refine go_dupA (pc := 161) dX3_buys_161 ?_
      refine go_getI (pc := 162) (n := self) (ci := 3) (k := 38) fa_X3_546_3 t_self rfl dX3_buys_162 ?_
      refine go_iload (pc := 165) (i := 4) dX3_buys_165 rfl ?_
      refine go_iadd (pc := 167) dX3_buys_167 ?_
      refine go_putI (pc := 168) (n := self) (ci := 3) (k := 38) (v := ((mI u11 self 38) + v2)) pa_X3_546_3 (fun h => by cases h) t_self rfl zKeep_int dX3_buys_168 fun u12 => ?_
      refine go_aload_n (pc := 171) (j := 0) (i := 0) dX3_buys_171 rfl rfl ?_
      refine go_getR (pc := 172) (n := self) (ci := 3) (k := 29) (t := 13) fa_X3_90_3 t_self rfl dX3_buys_172 fun r16 t_r16 => ?_
      refine go_iload_n (pc := 175) (j := 1) (i := 1) dX3_buys_175 rfl rfl ?_
      refine go_oB fun n16 e_n16 => ?_
      have t_n16 := t_r16 n16 e_n16
      subst e_n16
      refine go_dup2 (pc := 176) dX3_buys_176 ?_
      refine go_iald (pc := 177) t_n16 dX3_buys_177 ?_
      refine go_iconst (pc := 178) (v := 1) dX3_buys_178 (by decide) ?_
      refine go_iadd (pc := 179) dX3_buys_179 ?_
      refine go_iast (pc := 180) t_n16 dX3_buys_180 fun u13 => ?_
      refine go_aload_n (pc := 181) (j := 0) (i := 0) dX3_buys_181 rfl rfl ?_
      refine go_getR (pc := 182) (n := self) (ci := 3) (k := 10) (t := 13) fa_X3_33_3 t_self rfl dX3_buys_182 fun r17 t_r17 => ?_
      refine go_iload_n (pc := 185) (j := 2) (i := 2) dX3_buys_185 rfl rfl ?_
      refine go_oB fun n17 e_n17 => ?_
      have t_n17 := t_r17 n17 e_n17
      subst e_n17
      refine go_dup2 (pc := 186) dX3_buys_186 ?_
      refine go_iald (pc := 187) t_n17 dX3_buys_187 ?_
      refine go_iconst (pc := 188) (v := 1) dX3_buys_188 (by decide) ?_
      refine go_isub (pc := 189) dX3_buys_189 ?_
      refine go_iast (pc := 190) t_n17 dX3_buys_190 fun u14 => ?_
      refine go_aload_n (pc := 191) (j := 0) (i := 0) dX3_buys_191 rfl rfl ?_
      refine go_getR (pc := 192) (n := self) (ci := 3) (k := 18) (t := 13) fa_X3_57_3 t_self rfl dX3_buys_192 fun r18 t_r18 => ?_
      refine go_iload_n (pc := 195) (j := 2) (i := 2) dX3_buys_195 rfl rfl ?_
      refine go_oB fun n18 e_n18 => ?_
      have t_n18 := t_r18 n18 e_n18
      subst e_n18
      refine go_dup2 (pc := 196) dX3_buys_196 ?_
      refine go_iald (pc := 197) t_n18 dX3_buys_197 ?_
      refine go_iconst (pc := 198) (v := 1) dX3_buys_198 (by decide) ?_
      refine go_iadd (pc := 199) dX3_buys_199 ?_
      refine go_iast (pc := 200) t_n18 dX3_buys_200 fun u15 => ?_
      exact go_vreturn (pc := 201) rfl dX3_buys_201

def f_X3_seasons_L2 (x0 : Nat) (k51 : zM → Option (Unit × zM)) : Nat → Int32 → zM → Option (Unit × zM)
  | 0, _, _ => none
  | n + 1, x1, u => if (mI u x0 2) ≤ x1 then (k51 u) else (lt (mR u x0 21) fun r1 => oB r1 fun n1 => ix x1 (mN u n1) (lt (fun (u1 : zM) => f_X3_seasons_L2 x0 k51 n (x1 + 1) u1) fun j1 => if (mI u n1 (xN x1)) = 0 then (j1 u) else (bd (f_X3_asksOf_3 x0 x1 u) fun v1 u2 => lt (mR u2 x0 34) fun r2 => oB r2 fun n2 => ix x1 (mN u2 n2) (bd (f_X3_tells x0 0 u2) fun v2 u3 => bd (f_X3_least v2 u3) fun v3 u4 => ix x1 (mN u4 n2) (lt (sL u4 n2 (xN x1) ((mL u2 n2 (xN x1)) + (Int32.toInt64 v3))) fun u5 => j1 u5)))))
section
variable {c0 s0 : Nat} {tbv : List ExceptionTableEntry}
set_option maxHeartbeats 4000000 in
theorem g_X3_seasons_L2 (x0 : Nat) (k51 : zM → Option (Unit × zM)) (t_x0 : kd x0 = 3) (hk51 : ∀ (u : zM), Go RX3 cX3_seasons 2 (none) false 4 69 [] (obT) (zQ rvV) c0 s0 51 [(0, .ref x0)] [] [] u (k51 u)) : ∀ (n : Nat) (x1 : Int32) (u : zM), Go RX3 cX3_seasons 2 (none) false 4 69 [] (obT) (zQ rvV) c0 s0 2 [(0, .ref x0), (1, .int x1)] [] [] u (f_X3_seasons_L2 x0 k51 n x1 u) := by
  intro n
  induction n with
  | zero => intros; exact go_none
  | succ n ih =>
    intro x1 u
    unfold f_X3_seasons_L2
    refine go_iload_n (pc := 2) (j := 1) (i := 1) dX3_seasons_2 rfl rfl ?_
    refine go_aload_n (pc := 3) (j := 0) (i := 0) dX3_seasons_3 rfl rfl ?_
    refine go_getI (pc := 4) (n := x0) (ci := 3) (k := 2) fa_X3_278_3 t_x0 rfl dX3_seasons_4 ?_
    refine go_icmp_ge (pc := 7) (tgt := 51) dX3_seasons_7 (by decide) (fun h1 => ?_) (fun h1 => ?_)
    · exact go_weak (A' := [(0, .ref x0)]) (B' := []) ⟨rfl, trivial⟩ rfl (fun q h => by cases h) (hk51 u)
    · refine go_aload_n (pc := 10) (j := 0) (i := 0) dX3_seasons_10 rfl rfl ?_
      refine go_getR (pc := 11) (n := x0) (ci := 3) (k := 21) (t := 13) fa_X3_66_3 t_x0 rfl dX3_seasons_11 fun r1 t_r1 => ?_
      refine go_iload_n (pc := 14) (j := 1) (i := 1) dX3_seasons_14 rfl rfl ?_
      refine go_oB fun n1 e_n1 => ?_
      have t_n1 := t_r1 n1 e_n1
      subst e_n1
      refine go_iald (pc := 15) t_n1 dX3_seasons_15 ?_
      refine go_join0 (pcx := 45) ([(0, .ref x0), (1, .int x1)]) ([]) ([]) (True) (fun u1 _ => ?_) (fun j1 hj1 => ?_)
      · refine go_iinc (pc := 45) (i := 1) (w := 1) (A' := [(0, .ref x0), (1, .int (x1 + 1))]) rfl (by decide) (by decide) rfl rfl rfl dX3_seasons_45 ?_
        refine go_goto (pc := 48) (tgt := 2) dX3_seasons_48 (by decide) ?_
        exact go_weak (A' := [(0, .ref x0), (1, .int (x1 + 1))]) (B' := []) ⟨rfl, rfl, trivial⟩ rfl (fun q h => by cases h) (ih (x1 + 1) u1)
      · refine go_if_ne (pc := 16) (tgt := 22) dX3_seasons_16 (by decide) (fun h2 => ?_) (fun h2 => ?_)
        · refine go_goto (pc := 19) (tgt := 45) dX3_seasons_19 (by decide) ?_
          exact go_weak (A' := [(0, .ref x0), (1, .int x1)]) (B' := []) ⟨rfl, rfl, trivial⟩ rfl (fun q h => by cases h) (hj1 u trivial)
        · refine go_aload_n (pc := 22) (j := 0) (i := 0) dX3_seasons_22 rfl rfl ?_
          refine go_iload_n (pc := 23) (j := 1) (i := 1) dX3_seasons_23 rfl rfl ?_
          refine go_callVV (pc := 24) (ci := 3) (ct_X3_asksOf_3 x0 x1 t_x0) lk_X3_442 rfl rfl rfl (by decide) t_x0 ⟨by decide, by decide⟩ (Nat.le_of_ble_eq_true rfl) dX3_seasons_24 rfl fun v1 u2 => ?_
          refine go_aload_n (pc := 27) (j := 0) (i := 0) dX3_seasons_27 rfl rfl ?_
          refine go_getR (pc := 28) (n := x0) (ci := 3) (k := 34) (t := 16) fa_X3_105_3 t_x0 rfl dX3_seasons_28 fun r2 t_r2 => ?_
          refine go_iload_n (pc := 31) (j := 1) (i := 1) dX3_seasons_31 rfl rfl ?_
          refine go_oB fun n2 e_n2 => ?_
          have t_n2 := t_r2 n2 e_n2
          subst e_n2
          refine go_dup2 (pc := 32) dX3_seasons_32 ?_
          refine go_lald (pc := 33) t_n2 dX3_seasons_33 ?_
          refine go_aload_n (pc := 34) (j := 0) (i := 0) dX3_seasons_34 rfl rfl ?_
          refine go_iconst (pc := 35) (v := 0) dX3_seasons_35 (by decide) ?_
          refine go_callVI (pc := 36) (ci := 3) (ct_X3_tells x0 0 t_x0) lk_X3_445 rfl rfl rfl (by decide) t_x0 ⟨by decide, by decide⟩ (Nat.le_of_ble_eq_true rfl) dX3_seasons_36 rfl fun v2 u3 => ?_
          refine go_callSI (pc := 39) (ct_X3_least v2) lk_X3_448 rfl ⟨by decide, by decide⟩ (Nat.le_of_ble_eq_true rfl) dX3_seasons_39 rfl fun v3 u4 => ?_
          refine go_i2l (pc := 42) dX3_seasons_42 ?_
          refine go_ladd (pc := 43) dX3_seasons_43  ?_
          refine go_last (pc := 44) t_n2 dX3_seasons_44 fun u5 => ?_
          exact go_weak (A' := [(0, .ref x0), (1, .int x1)]) (B' := []) ⟨rfl, rfl, trivial⟩ rfl (fun q h => by cases h) (hj1 u5 trivial)
end
def f_X3_seasons_L53 (x0 : Nat) : Nat → Int32 → zM → Option (Unit × zM)
  | 0, _, _ => none
  | n + 1, x1, u => if (mI u x0 1) ≤ x1 then (some ((), u)) else (lt (mR u x0 18) fun r3 => oB r3 fun n3 => ix x1 (mN u n3) (lt (mR u x0 19) fun r4 => oB r4 fun n4 => ix x1 (mN u n4) (lt (fun (u7 : zM) => lt (mR u7 x0 19) fun r5 => lt (mR u7 x0 18) fun r6 => oB r6 fun n5 => ix x1 (mN u7 n5) (oB r5 fun n6 => ix x1 (mN u7 n6) (lt (sI u7 n6 (xN x1) (mI u7 n5 (xN x1))) fun u8 => lt (mR u8 x0 18) fun r7 => oB r7 fun n7 => ix x1 (mN u8 n7) (lt (sI u8 n7 (xN x1) 0) fun u9 => f_X3_seasons_L53 x0 n (x1 + 1) u9)))) fun j2 => if (mI u n4 (xN x1)) ≤ (mI u n3 (xN x1)) then (lt (mR u x0 12) fun r8 => lt (mR u x0 12) fun r9 => oB r9 fun n8 => ix x1 (mN u n8) (lt (fun (z1 : Int32) (u10 : zM) => oB r8 fun n9 => ix x1 (mN u10 n9) (lt (sI u10 n9 (xN x1) z1) fun u11 => j2 u11)) fun j3 => if 99 ≤ (mI u n8 (xN x1)) then (j3 99 u) else (lt (mR u x0 12) fun r10 => oB r10 fun n10 => ix x1 (mN u n10) (j3 ((mI u n10 (xN x1)) + 1) u)))) else (lt (mR u x0 12) fun r11 => lt (mR u x0 12) fun r12 => oB r12 fun n11 => ix x1 (mN u n11) (lt (fun (z2 : Int32) (u12 : zM) => oB r11 fun n12 => ix x1 (mN u12 n12) (lt (sI u12 n12 (xN x1) z2) fun u13 => j2 u13)) fun j4 => if (mI u n11 (xN x1)) ≤ 1 then (j4 1 u) else (lt (mR u x0 12) fun r13 => oB r13 fun n13 => ix x1 (mN u n13) (j4 ((mI u n13 (xN x1)) - 1) u)))))))
section
variable {c0 s0 : Nat} {tbv : List ExceptionTableEntry}
set_option maxHeartbeats 4000000 in
theorem g_X3_seasons_L53 (x0 : Nat) (t_x0 : kd x0 = 3) : ∀ (n : Nat) (x1 : Int32) (u : zM), Go RX3 cX3_seasons 2 (none) false 4 69 [] (obT) (zQ rvV) c0 s0 53 [(0, .ref x0), (1, .int x1)] [] [] u (f_X3_seasons_L53 x0 n x1 u) := by
  intro n
  induction n with
  | zero => intros; exact go_none
  | succ n ih =>
    intro x1 u
    unfold f_X3_seasons_L53
    refine go_iload_n (pc := 53) (j := 1) (i := 1) dX3_seasons_53 rfl rfl ?_
    refine go_aload_n (pc := 54) (j := 0) (i := 0) dX3_seasons_54 rfl rfl ?_
    refine go_getI (pc := 55) (n := x0) (ci := 3) (k := 1) fa_X3_270_3 t_x0 rfl dX3_seasons_55 ?_
    refine go_icmp_ge (pc := 58) (tgt := 162) dX3_seasons_58 (by decide) (fun h3 => ?_) (fun h3 => ?_)
    · exact go_vreturn (pc := 162) rfl dX3_seasons_162
    · refine go_aload_n (pc := 61) (j := 0) (i := 0) dX3_seasons_61 rfl rfl ?_
      refine go_getR (pc := 62) (n := x0) (ci := 3) (k := 18) (t := 13) fa_X3_57_3 t_x0 rfl dX3_seasons_62 fun r3 t_r3 => ?_
      refine go_iload_n (pc := 65) (j := 1) (i := 1) dX3_seasons_65 rfl rfl ?_
      refine go_oB fun n3 e_n3 => ?_
      have t_n3 := t_r3 n3 e_n3
      subst e_n3
      refine go_iald (pc := 66) t_n3 dX3_seasons_66 ?_
      refine go_aload_n (pc := 67) (j := 0) (i := 0) dX3_seasons_67 rfl rfl ?_
      refine go_getR (pc := 68) (n := x0) (ci := 3) (k := 19) (t := 13) fa_X3_60_3 t_x0 rfl dX3_seasons_68 fun r4 t_r4 => ?_
      refine go_iload_n (pc := 71) (j := 1) (i := 1) dX3_seasons_71 rfl rfl ?_
      refine go_oB fun n4 e_n4 => ?_
      have t_n4 := t_r4 n4 e_n4
      subst e_n4
      refine go_iald (pc := 72) t_n4 dX3_seasons_72 ?_
      refine go_join0 (pcx := 137) ([(0, .ref x0), (1, .int x1)]) ([]) ([]) (True) (fun u7 _ => ?_) (fun j2 hj2 => ?_)
      · refine go_aload_n (pc := 137) (j := 0) (i := 0) dX3_seasons_137 rfl rfl ?_
        refine go_getR (pc := 138) (n := x0) (ci := 3) (k := 19) (t := 13) fa_X3_60_3 t_x0 rfl dX3_seasons_138 fun r5 t_r5 => ?_
        refine go_iload_n (pc := 141) (j := 1) (i := 1) dX3_seasons_141 rfl rfl ?_
        refine go_aload_n (pc := 142) (j := 0) (i := 0) dX3_seasons_142 rfl rfl ?_
        refine go_getR (pc := 143) (n := x0) (ci := 3) (k := 18) (t := 13) fa_X3_57_3 t_x0 rfl dX3_seasons_143 fun r6 t_r6 => ?_
        refine go_iload_n (pc := 146) (j := 1) (i := 1) dX3_seasons_146 rfl rfl ?_
        refine go_oB fun n5 e_n5 => ?_
        have t_n5 := t_r6 n5 e_n5
        subst e_n5
        refine go_iald (pc := 147) t_n5 dX3_seasons_147 ?_
        refine go_oB fun n6 e_n6 => ?_
        have t_n6 := t_r5 n6 e_n6
        subst e_n6
        refine go_iast (pc := 148) t_n6 dX3_seasons_148 fun u8 => ?_
        refine go_aload_n (pc := 149) (j := 0) (i := 0) dX3_seasons_149 rfl rfl ?_
        refine go_getR (pc := 150) (n := x0) (ci := 3) (k := 18) (t := 13) fa_X3_57_3 t_x0 rfl dX3_seasons_150 fun r7 t_r7 => ?_
        refine go_iload_n (pc := 153) (j := 1) (i := 1) dX3_seasons_153 rfl rfl ?_
        refine go_iconst (pc := 154) (v := 0) dX3_seasons_154 (by decide) ?_
        refine go_oB fun n7 e_n7 => ?_
        have t_n7 := t_r7 n7 e_n7
        subst e_n7
        refine go_iast (pc := 155) t_n7 dX3_seasons_155 fun u9 => ?_
        refine go_iinc (pc := 156) (i := 1) (w := 1) (A' := [(0, .ref x0), (1, .int (x1 + 1))]) rfl (by decide) (by decide) rfl rfl rfl dX3_seasons_156 ?_
        refine go_goto (pc := 159) (tgt := 53) dX3_seasons_159 (by decide) ?_
        exact go_weak (A' := [(0, .ref x0), (1, .int (x1 + 1))]) (B' := []) ⟨rfl, rfl, trivial⟩ rfl (fun q h => by cases h) (ih (x1 + 1) u9)
      · refine go_icmp_ge (pc := 73) (tgt := 107) dX3_seasons_73 (by decide) (fun h4 => ?_) (fun h4 => ?_)
        · refine go_aload_n (pc := 107) (j := 0) (i := 0) dX3_seasons_107 rfl rfl ?_
          refine go_getR (pc := 108) (n := x0) (ci := 3) (k := 12) (t := 13) fa_X3_39_3 t_x0 rfl dX3_seasons_108 fun r8 t_r8 => ?_
          refine go_iload_n (pc := 111) (j := 1) (i := 1) dX3_seasons_111 rfl rfl ?_
          refine go_aload_n (pc := 112) (j := 0) (i := 0) dX3_seasons_112 rfl rfl ?_
          refine go_getR (pc := 113) (n := x0) (ci := 3) (k := 12) (t := 13) fa_X3_39_3 t_x0 rfl dX3_seasons_113 fun r9 t_r9 => ?_
          refine go_iload_n (pc := 116) (j := 1) (i := 1) dX3_seasons_116 rfl rfl ?_
          refine go_oB fun n8 e_n8 => ?_
          have t_n8 := t_r9 n8 e_n8
          subst e_n8
          refine go_iald (pc := 117) t_n8 dX3_seasons_117 ?_
          refine go_bipush (pc := 118) (v := 99) dX3_seasons_118 (by decide) ?_
          refine go_join1 (pcx := 136) (α1 := Int32) (fun z1 => [(0, .ref x0), (1, .int x1)]) (fun z1 => []) (fun z1 => [.int z1, .int x1, va_rf r8]) (fun z1 => True) (fun z1 u10 _ => ?_) (fun j3 hj3 => ?_)
          · refine go_oB fun n9 e_n9 => ?_
            have t_n9 := t_r8 n9 e_n9
            subst e_n9
            refine go_iast (pc := 136) t_n9 dX3_seasons_136 fun u11 => ?_
            exact go_weak (A' := [(0, .ref x0), (1, .int x1)]) (B' := []) ⟨rfl, rfl, trivial⟩ rfl (fun q h => by cases h) (hj2 u11 trivial)
          · refine go_icmp_ge (pc := 120) (tgt := 134) dX3_seasons_120 (by decide) (fun h5 => ?_) (fun h5 => ?_)
            · refine go_bipush (pc := 134) (v := 99) dX3_seasons_134 (by decide) ?_
              exact go_weak (A' := [(0, .ref x0), (1, .int x1)]) (B' := []) ⟨rfl, rfl, trivial⟩ rfl (fun q h => by cases h) (hj3 99 u trivial)
            · refine go_aload_n (pc := 123) (j := 0) (i := 0) dX3_seasons_123 rfl rfl ?_
              refine go_getR (pc := 124) (n := x0) (ci := 3) (k := 12) (t := 13) fa_X3_39_3 t_x0 rfl dX3_seasons_124 fun r10 t_r10 => ?_
              refine go_iload_n (pc := 127) (j := 1) (i := 1) dX3_seasons_127 rfl rfl ?_
              refine go_oB fun n10 e_n10 => ?_
              have t_n10 := t_r10 n10 e_n10
              subst e_n10
              refine go_iald (pc := 128) t_n10 dX3_seasons_128 ?_
              refine go_iconst (pc := 129) (v := 1) dX3_seasons_129 (by decide) ?_
              refine go_iadd (pc := 130) dX3_seasons_130 ?_
              refine go_goto (pc := 131) (tgt := 136) dX3_seasons_131 (by decide) ?_
              exact go_weak (A' := [(0, .ref x0), (1, .int x1)]) (B' := []) ⟨rfl, rfl, trivial⟩ rfl (fun q h => by cases h) (hj3 ((mI u n10 (xN x1)) + 1) u trivial)
        · refine go_aload_n (pc := 76) (j := 0) (i := 0) dX3_seasons_76 rfl rfl ?_
          refine go_getR (pc := 77) (n := x0) (ci := 3) (k := 12) (t := 13) fa_X3_39_3 t_x0 rfl dX3_seasons_77 fun r11 t_r11 => ?_
          refine go_iload_n (pc := 80) (j := 1) (i := 1) dX3_seasons_80 rfl rfl ?_
          refine go_aload_n (pc := 81) (j := 0) (i := 0) dX3_seasons_81 rfl rfl ?_
          refine go_getR (pc := 82) (n := x0) (ci := 3) (k := 12) (t := 13) fa_X3_39_3 t_x0 rfl dX3_seasons_82 fun r12 t_r12 => ?_
          refine go_iload_n (pc := 85) (j := 1) (i := 1) dX3_seasons_85 rfl rfl ?_
          refine go_oB fun n11 e_n11 => ?_
          have t_n11 := t_r12 n11 e_n11
          subst e_n11
          refine go_iald (pc := 86) t_n11 dX3_seasons_86 ?_
          refine go_iconst (pc := 87) (v := 1) dX3_seasons_87 (by decide) ?_
          refine go_join1 (pcx := 103) (α1 := Int32) (fun z2 => [(0, .ref x0), (1, .int x1)]) (fun z2 => []) (fun z2 => [.int z2, .int x1, va_rf r11]) (fun z2 => True) (fun z2 u12 _ => ?_) (fun j4 hj4 => ?_)
          · refine go_oB fun n12 e_n12 => ?_
            have t_n12 := t_r11 n12 e_n12
            subst e_n12
            refine go_iast (pc := 103) t_n12 dX3_seasons_103 fun u13 => ?_
            refine go_goto (pc := 104) (tgt := 137) dX3_seasons_104 (by decide) ?_
            exact go_weak (A' := [(0, .ref x0), (1, .int x1)]) (B' := []) ⟨rfl, rfl, trivial⟩ rfl (fun q h => by cases h) (hj2 u13 trivial)
          · refine go_icmp_le (pc := 88) (tgt := 102) dX3_seasons_88 (by decide) (fun h6 => ?_) (fun h6 => ?_)
            · refine go_iconst (pc := 102) (v := 1) dX3_seasons_102 (by decide) ?_
              exact go_weak (A' := [(0, .ref x0), (1, .int x1)]) (B' := []) ⟨rfl, rfl, trivial⟩ rfl (fun q h => by cases h) (hj4 1 u trivial)
            · refine go_aload_n (pc := 91) (j := 0) (i := 0) dX3_seasons_91 rfl rfl ?_
              refine go_getR (pc := 92) (n := x0) (ci := 3) (k := 12) (t := 13) fa_X3_39_3 t_x0 rfl dX3_seasons_92 fun r13 t_r13 => ?_
              refine go_iload_n (pc := 95) (j := 1) (i := 1) dX3_seasons_95 rfl rfl ?_
              refine go_oB fun n13 e_n13 => ?_
              have t_n13 := t_r13 n13 e_n13
              subst e_n13
              refine go_iald (pc := 96) t_n13 dX3_seasons_96 ?_
              refine go_iconst (pc := 97) (v := 1) dX3_seasons_97 (by decide) ?_
              refine go_isub (pc := 98) dX3_seasons_98 ?_
              refine go_goto (pc := 99) (tgt := 103) dX3_seasons_99 (by decide) ?_
              exact go_weak (A' := [(0, .ref x0), (1, .int x1)]) (B' := []) ⟨rfl, rfl, trivial⟩ rfl (fun q h => by cases h) (hj4 ((mI u n13 (xN x1)) - 1) u trivial)
end
def f_X3_seasons (self : Nat) (u : zM) : Option (Unit × zM) := f_X3_seasons_L2 self (fun u6 => f_X3_seasons_L53 self zFu 0 u6) zFu 0 u
set_option maxHeartbeats 4000000 in
theorem ct_X3_seasons (self : Nat) (t_self : kd self = 3) : zMet yX3_seasons cX3_seasons 2 (none) 4 69 rvV (obT) [.ref self] (f_X3_seasons self) := by
  refine zMet_of (A := [(0, .ref self)]) (B := []) (ini := false) RX3 rfl (by decide +kernel) (fun h => by cases h) (by simp [lg_sl, Value.category]) (by simp [lv_args, Value.category]) rfl (by simp [lv_args, Value.category]) fun u => ?_
  unfold f_X3_seasons
  refine go_iconst (pc := 0) (v := 0) dX3_seasons_0 (by decide) ?_
  refine go_istore_n (pc := 1) (j := 1) (i := 1) (A' := [(0, .ref self), (1, .int 0)]) rfl (by decide) rfl rfl rfl dX3_seasons_1 ?_
  refine go_weak (A' := [(0, .ref self), (1, .int 0)]) (B' := []) ⟨rfl, rfl, trivial⟩ rfl (fun q h => by cases h) (g_X3_seasons_L2 self _ t_self ?_ zFu 0 u)
  · intro u6
    refine go_iconst (pc := 51) (v := 0) dX3_seasons_51 (by decide) ?_
    refine go_istore_n (pc := 52) (j := 1) (i := 1) (A' := [(0, .ref self), (1, .int 0)]) rfl (by decide) rfl rfl rfl dX3_seasons_52 ?_
    exact go_weak (A' := [(0, .ref self), (1, .int 0)]) (B' := []) ⟨rfl, rfl, trivial⟩ rfl (fun q h => by cases h) (g_X3_seasons_L53 self t_self zFu 0 u6)

def f_X3_goRound_L29 (x0 : Nat) (x1 : Int32) (k85 : zM → Option (Unit × zM)) : Nat → Int32 → zM → Option (Unit × zM)
  | 0, _, _ => none
  | n + 1, x2, u => if (mI u x0 1) ≤ x2 then (k85 u) else (lt (mR u x0 4) fun r3 => oB r3 fun n3 => ix x1 (mN u n3) (lt (mR u n3 (xN x1)) fun r4 => oB r4 fun n4 => ix x2 (mN u n4) (lt (fun (u3 : zM) => f_X3_goRound_L29 x0 x1 k85 n (x2 + 1) u3) fun j1 => if (mI u n4 (xN x2)) ≤ 0 then (j1 u) else (lt (mR u x0 13) fun r5 => oB r5 fun n5 => ix x2 (mN u n5) (lt (mR u x0 92) fun r6 => oB r6 fun n6 => ix x1 (mN u n6) (if ((mI u n5 (xN x2)) - 2) ≤ (mI u n6 (xN x1)) then (j1 u) else (lt (mR u x0 92) fun r7 => lt (mR u x0 13) fun r8 => oB r8 fun n7 => ix x2 (mN u n7) (oB r7 fun n8 => ix x1 (mN u n8) (lt (sI u n8 (xN x1) ((mI u n7 (xN x2)) - 2)) fun u4 => j1 u4)))))))))
section
variable {c0 s0 : Nat} {tbv : List ExceptionTableEntry}
set_option maxHeartbeats 4000000 in
theorem g_X3_goRound_L29 (x0 : Nat) (x1 : Int32) (k85 : zM → Option (Unit × zM)) (t_x0 : kd x0 = 3) (hk85 : ∀ (u : zM), Go RX3 cX3_goRound 3 (none) false 2 20 [] (obT) (zQ rvV) c0 s0 85 [(0, .ref x0), (1, .int x1)] [] [] u (k85 u)) : ∀ (n : Nat) (x2 : Int32) (u : zM), Go RX3 cX3_goRound 3 (none) false 2 20 [] (obT) (zQ rvV) c0 s0 29 [(0, .ref x0), (1, .int x1), (2, .int x2)] [] [] u (f_X3_goRound_L29 x0 x1 k85 n x2 u) := by
  intro n
  induction n with
  | zero => intros; exact go_none
  | succ n ih =>
    intro x2 u
    unfold f_X3_goRound_L29
    refine go_iload_n (pc := 29) (j := 2) (i := 2) dX3_goRound_29 rfl rfl ?_
    refine go_aload_n (pc := 30) (j := 0) (i := 0) dX3_goRound_30 rfl rfl ?_
    refine go_getI (pc := 31) (n := x0) (ci := 3) (k := 1) fa_X3_270_3 t_x0 rfl dX3_goRound_31 ?_
    refine go_icmp_ge (pc := 34) (tgt := 85) dX3_goRound_34 (by decide) (fun h2 => ?_) (fun h2 => ?_)
    · exact go_weak (A' := [(0, .ref x0), (1, .int x1)]) (B' := []) ⟨rfl, rfl, trivial⟩ rfl (fun q h => by cases h) (hk85 u)
    · refine go_aload_n (pc := 37) (j := 0) (i := 0) dX3_goRound_37 rfl rfl ?_
      refine go_getR (pc := 38) (n := x0) (ci := 3) (k := 4) (t := 23) fa_X3_14_3 t_x0 rfl dX3_goRound_38 fun r3 t_r3 => ?_
      refine go_iload_n (pc := 41) (j := 1) (i := 1) dX3_goRound_41 rfl rfl ?_
      refine go_oB fun n3 e_n3 => ?_
      have t_n3 := t_r3 n3 e_n3
      subst e_n3
      refine go_aald (pc := 42) (n := n3) (ci := 23) (t := 13) (by decide) (by decide) t_n3 rfl dX3_goRound_42 fun r4 t_r4 => ?_
      refine go_iload_n (pc := 43) (j := 2) (i := 2) dX3_goRound_43 rfl rfl ?_
      refine go_oB fun n4 e_n4 => ?_
      have t_n4 := t_r4 n4 e_n4
      subst e_n4
      refine go_iald (pc := 44) t_n4 dX3_goRound_44 ?_
      refine go_join0 (pcx := 79) ([(0, .ref x0), (1, .int x1), (2, .int x2)]) ([]) ([]) (True) (fun u3 _ => ?_) (fun j1 hj1 => ?_)
      · refine go_iinc (pc := 79) (i := 2) (w := 1) (A' := [(0, .ref x0), (1, .int x1), (2, .int (x2 + 1))]) rfl (by decide) (by decide) rfl rfl rfl dX3_goRound_79 ?_
        refine go_goto (pc := 82) (tgt := 29) dX3_goRound_82 (by decide) ?_
        exact go_weak (A' := [(0, .ref x0), (1, .int x1), (2, .int (x2 + 1))]) (B' := []) ⟨rfl, rfl, rfl, trivial⟩ rfl (fun q h => by cases h) (ih (x2 + 1) u3)
      · refine go_if_le (pc := 45) (tgt := 79) dX3_goRound_45 (by decide) (fun h3 => ?_) (fun h3 => ?_)
        · exact go_weak (A' := [(0, .ref x0), (1, .int x1), (2, .int x2)]) (B' := []) ⟨rfl, rfl, rfl, trivial⟩ rfl (fun q h => by cases h) (hj1 u trivial)
        · refine go_aload_n (pc := 48) (j := 0) (i := 0) dX3_goRound_48 rfl rfl ?_
          refine go_getR (pc := 49) (n := x0) (ci := 3) (k := 13) (t := 13) fa_X3_42_3 t_x0 rfl dX3_goRound_49 fun r5 t_r5 => ?_
          refine go_iload_n (pc := 52) (j := 2) (i := 2) dX3_goRound_52 rfl rfl ?_
          refine go_oB fun n5 e_n5 => ?_
          have t_n5 := t_r5 n5 e_n5
          subst e_n5
          refine go_iald (pc := 53) t_n5 dX3_goRound_53 ?_
          refine go_iconst (pc := 54) (v := 2) dX3_goRound_54 (by decide) ?_
          refine go_isub (pc := 55) dX3_goRound_55 ?_
          refine go_aload_n (pc := 56) (j := 0) (i := 0) dX3_goRound_56 rfl rfl ?_
          refine go_getR (pc := 57) (n := x0) (ci := 3) (k := 92) (t := 13) fa_X3_258_3 t_x0 rfl dX3_goRound_57 fun r6 t_r6 => ?_
          refine go_iload_n (pc := 60) (j := 1) (i := 1) dX3_goRound_60 rfl rfl ?_
          refine go_oB fun n6 e_n6 => ?_
          have t_n6 := t_r6 n6 e_n6
          subst e_n6
          refine go_iald (pc := 61) t_n6 dX3_goRound_61 ?_
          refine go_icmp_le (pc := 62) (tgt := 79) dX3_goRound_62 (by decide) (fun h4 => ?_) (fun h4 => ?_)
          · exact go_weak (A' := [(0, .ref x0), (1, .int x1), (2, .int x2)]) (B' := []) ⟨rfl, rfl, rfl, trivial⟩ rfl (fun q h => by cases h) (hj1 u trivial)
          · refine go_aload_n (pc := 65) (j := 0) (i := 0) dX3_goRound_65 rfl rfl ?_
            refine go_getR (pc := 66) (n := x0) (ci := 3) (k := 92) (t := 13) fa_X3_258_3 t_x0 rfl dX3_goRound_66 fun r7 t_r7 => ?_
            refine go_iload_n (pc := 69) (j := 1) (i := 1) dX3_goRound_69 rfl rfl ?_
            refine go_aload_n (pc := 70) (j := 0) (i := 0) dX3_goRound_70 rfl rfl ?_
            refine go_getR (pc := 71) (n := x0) (ci := 3) (k := 13) (t := 13) fa_X3_42_3 t_x0 rfl dX3_goRound_71 fun r8 t_r8 => ?_
            refine go_iload_n (pc := 74) (j := 2) (i := 2) dX3_goRound_74 rfl rfl ?_
            refine go_oB fun n7 e_n7 => ?_
            have t_n7 := t_r8 n7 e_n7
            subst e_n7
            refine go_iald (pc := 75) t_n7 dX3_goRound_75 ?_
            refine go_iconst (pc := 76) (v := 2) dX3_goRound_76 (by decide) ?_
            refine go_isub (pc := 77) dX3_goRound_77 ?_
            refine go_oB fun n8 e_n8 => ?_
            have t_n8 := t_r7 n8 e_n8
            subst e_n8
            refine go_iast (pc := 78) t_n8 dX3_goRound_78 fun u4 => ?_
            exact go_weak (A' := [(0, .ref x0), (1, .int x1), (2, .int x2)]) (B' := []) ⟨rfl, rfl, rfl, trivial⟩ rfl (fun q h => by cases h) (hj1 u4 trivial)
end
def f_X3_goRound_L2 (x0 : Nat) (k91 : zM → Option (Unit × zM)) : Nat → Int32 → zM → Option (Unit × zM)
  | 0, _, _ => none
  | n + 1, x1, u => if (mI u x0 1) ≤ x1 then (k91 u) else (lt (mR u x0 92) fun r1 => lt (mR u x0 13) fun r2 => oB r2 fun n1 => ix x1 (mN u n1) (bd (f_X3_least ((mI u n1 (xN x1)) - 1) u) fun v1 u1 => oB r1 fun n2 => ix x1 (mN u1 n2) (lt (sI u1 n2 (xN x1) v1) fun u2 => f_X3_goRound_L29 x0 x1 (fun u5 => f_X3_goRound_L2 x0 k91 n (x1 + 1) u5) zFu 0 u2)))
section
variable {c0 s0 : Nat} {tbv : List ExceptionTableEntry}
set_option maxHeartbeats 4000000 in
theorem g_X3_goRound_L2 (x0 : Nat) (k91 : zM → Option (Unit × zM)) (t_x0 : kd x0 = 3) (hk91 : ∀ (u : zM), Go RX3 cX3_goRound 3 (none) false 2 20 [] (obT) (zQ rvV) c0 s0 91 [(0, .ref x0)] [] [] u (k91 u)) : ∀ (n : Nat) (x1 : Int32) (u : zM), Go RX3 cX3_goRound 3 (none) false 2 20 [] (obT) (zQ rvV) c0 s0 2 [(0, .ref x0), (1, .int x1)] [] [] u (f_X3_goRound_L2 x0 k91 n x1 u) := by
  intro n
  induction n with
  | zero => intros; exact go_none
  | succ n ih =>
    intro x1 u
    unfold f_X3_goRound_L2
    refine go_iload_n (pc := 2) (j := 1) (i := 1) dX3_goRound_2 rfl rfl ?_
    refine go_aload_n (pc := 3) (j := 0) (i := 0) dX3_goRound_3 rfl rfl ?_
    refine go_getI (pc := 4) (n := x0) (ci := 3) (k := 1) fa_X3_270_3 t_x0 rfl dX3_goRound_4 ?_
    refine go_icmp_ge (pc := 7) (tgt := 91) dX3_goRound_7 (by decide) (fun h1 => ?_) (fun h1 => ?_)
    · exact go_weak (A' := [(0, .ref x0)]) (B' := []) ⟨rfl, trivial⟩ rfl (fun q h => by cases h) (hk91 u)
    · refine go_aload_n (pc := 10) (j := 0) (i := 0) dX3_goRound_10 rfl rfl ?_
      refine go_getR (pc := 11) (n := x0) (ci := 3) (k := 92) (t := 13) fa_X3_258_3 t_x0 rfl dX3_goRound_11 fun r1 t_r1 => ?_
      refine go_iload_n (pc := 14) (j := 1) (i := 1) dX3_goRound_14 rfl rfl ?_
      refine go_aload_n (pc := 15) (j := 0) (i := 0) dX3_goRound_15 rfl rfl ?_
      refine go_getR (pc := 16) (n := x0) (ci := 3) (k := 13) (t := 13) fa_X3_42_3 t_x0 rfl dX3_goRound_16 fun r2 t_r2 => ?_
      refine go_iload_n (pc := 19) (j := 1) (i := 1) dX3_goRound_19 rfl rfl ?_
      refine go_oB fun n1 e_n1 => ?_
      have t_n1 := t_r2 n1 e_n1
      subst e_n1
      refine go_iald (pc := 20) t_n1 dX3_goRound_20 ?_
      refine go_iconst (pc := 21) (v := 1) dX3_goRound_21 (by decide) ?_
      refine go_isub (pc := 22) dX3_goRound_22 ?_
      refine go_callSI (pc := 23) (ct_X3_least ((mI u n1 (xN x1)) - 1)) lk_X3_448 rfl ⟨by decide, by decide⟩ (by simp [cat_rf, cat_int, cat_ref, cat_long]) dX3_goRound_23 rfl fun v1 u1 => ?_
      refine go_oB fun n2 e_n2 => ?_
      have t_n2 := t_r1 n2 e_n2
      subst e_n2
      refine go_iast (pc := 26) t_n2 dX3_goRound_26 fun u2 => ?_
      refine go_iconst (pc := 27) (v := 0) dX3_goRound_27 (by decide) ?_
      refine go_istore_n (pc := 28) (j := 2) (i := 2) (A' := [(0, .ref x0), (1, .int x1), (2, .int 0)]) rfl (by decide) rfl rfl rfl dX3_goRound_28 ?_
      refine go_weak (A' := [(0, .ref x0), (1, .int x1), (2, .int 0)]) (B' := []) ⟨rfl, rfl, rfl, trivial⟩ rfl (fun q h => by cases h) (g_X3_goRound_L29 x0 x1 _ t_x0 ?_ zFu 0 u2)
      · intro u5
        refine go_iinc (pc := 85) (i := 1) (w := 1) (A' := [(0, .ref x0), (1, .int (x1 + 1))]) rfl (by decide) (by decide) rfl rfl rfl dX3_goRound_85 ?_
        refine go_goto (pc := 88) (tgt := 2) dX3_goRound_88 (by decide) ?_
        exact go_weak (A' := [(0, .ref x0), (1, .int (x1 + 1))]) (B' := []) ⟨rfl, rfl, trivial⟩ rfl (fun q h => by cases h) (ih (x1 + 1) u5)
end
def f_X3_goRound_L93 (x0 : Nat) : Nat → Int32 → zM → Option (Unit × zM)
  | 0, _, _ => none
  | n + 1, x1, u => if (mI u x0 1) ≤ x1 then (some ((), u)) else (lt (mR u x0 13) fun r9 => lt (mR u x0 92) fun r10 => oB r10 fun n9 => ix x1 (mN u n9) (oB r9 fun n10 => ix x1 (mN u n10) (lt (sI u n10 (xN x1) (mI u n9 (xN x1))) fun u7 => f_X3_goRound_L93 x0 n (x1 + 1) u7)))
section
variable {c0 s0 : Nat} {tbv : List ExceptionTableEntry}
set_option maxHeartbeats 4000000 in
theorem g_X3_goRound_L93 (x0 : Nat) (t_x0 : kd x0 = 3) : ∀ (n : Nat) (x1 : Int32) (u : zM), Go RX3 cX3_goRound 3 (none) false 2 20 [] (obT) (zQ rvV) c0 s0 93 [(0, .ref x0), (1, .int x1)] [] [] u (f_X3_goRound_L93 x0 n x1 u) := by
  intro n
  induction n with
  | zero => intros; exact go_none
  | succ n ih =>
    intro x1 u
    unfold f_X3_goRound_L93
    refine go_iload_n (pc := 93) (j := 1) (i := 1) dX3_goRound_93 rfl rfl ?_
    refine go_aload_n (pc := 94) (j := 0) (i := 0) dX3_goRound_94 rfl rfl ?_
    refine go_getI (pc := 95) (n := x0) (ci := 3) (k := 1) fa_X3_270_3 t_x0 rfl dX3_goRound_95 ?_
    refine go_icmp_ge (pc := 98) (tgt := 119) dX3_goRound_98 (by decide) (fun h5 => ?_) (fun h5 => ?_)
    · exact go_vreturn (pc := 119) rfl dX3_goRound_119
    · refine go_aload_n (pc := 101) (j := 0) (i := 0) dX3_goRound_101 rfl rfl ?_
      refine go_getR (pc := 102) (n := x0) (ci := 3) (k := 13) (t := 13) fa_X3_42_3 t_x0 rfl dX3_goRound_102 fun r9 t_r9 => ?_
      refine go_iload_n (pc := 105) (j := 1) (i := 1) dX3_goRound_105 rfl rfl ?_
      refine go_aload_n (pc := 106) (j := 0) (i := 0) dX3_goRound_106 rfl rfl ?_
      refine go_getR (pc := 107) (n := x0) (ci := 3) (k := 92) (t := 13) fa_X3_258_3 t_x0 rfl dX3_goRound_107 fun r10 t_r10 => ?_
      refine go_iload_n (pc := 110) (j := 1) (i := 1) dX3_goRound_110 rfl rfl ?_
      refine go_oB fun n9 e_n9 => ?_
      have t_n9 := t_r10 n9 e_n9
      subst e_n9
      refine go_iald (pc := 111) t_n9 dX3_goRound_111 ?_
      refine go_oB fun n10 e_n10 => ?_
      have t_n10 := t_r9 n10 e_n10
      subst e_n10
      refine go_iast (pc := 112) t_n10 dX3_goRound_112 fun u7 => ?_
      refine go_iinc (pc := 113) (i := 1) (w := 1) (A' := [(0, .ref x0), (1, .int (x1 + 1))]) rfl (by decide) (by decide) rfl rfl rfl dX3_goRound_113 ?_
      refine go_goto (pc := 116) (tgt := 93) dX3_goRound_116 (by decide) ?_
      exact go_weak (A' := [(0, .ref x0), (1, .int (x1 + 1))]) (B' := []) ⟨rfl, rfl, trivial⟩ rfl (fun q h => by cases h) (ih (x1 + 1) u7)
end
def f_X3_goRound (self : Nat) (u : zM) : Option (Unit × zM) := f_X3_goRound_L2 self (fun u6 => f_X3_goRound_L93 self zFu 0 u6) zFu 0 u
set_option maxHeartbeats 4000000 in
theorem ct_X3_goRound (self : Nat) (t_self : kd self = 3) : zMet yX3_goRound cX3_goRound 3 (none) 2 20 rvV (obT) [.ref self] (f_X3_goRound self) := by
  refine zMet_of (A := [(0, .ref self)]) (B := []) (ini := false) RX3 rfl (by decide +kernel) (fun h => by cases h) (by simp [lg_sl, Value.category]) (by simp [lv_args, Value.category]) rfl (by simp [lv_args, Value.category]) fun u => ?_
  unfold f_X3_goRound
  refine go_iconst (pc := 0) (v := 0) dX3_goRound_0 (by decide) ?_
  refine go_istore_n (pc := 1) (j := 1) (i := 1) (A' := [(0, .ref self), (1, .int 0)]) rfl (by decide) rfl rfl rfl dX3_goRound_1 ?_
  refine go_weak (A' := [(0, .ref self), (1, .int 0)]) (B' := []) ⟨rfl, rfl, trivial⟩ rfl (fun q h => by cases h) (g_X3_goRound_L2 self _ t_self ?_ zFu 0 u)
  · intro u6
    refine go_iconst (pc := 91) (v := 0) dX3_goRound_91 (by decide) ?_
    refine go_istore_n (pc := 92) (j := 1) (i := 1) (A' := [(0, .ref self), (1, .int 0)]) rfl (by decide) rfl rfl rfl dX3_goRound_92 ?_
    exact go_weak (A' := [(0, .ref self), (1, .int 0)]) (B' := []) ⟨rfl, rfl, trivial⟩ rfl (fun q h => by cases h) (g_X3_goRound_L93 self t_self zFu 0 u6)

def f_X3_week_L6 (x0 : Nat) (k41 : zM → Option (Unit × zM)) : Nat → Int32 → zM → Option (Unit × zM)
  | 0, _, _ => none
  | n + 1, x1, u => if (mI u x0 2) ≤ x1 then (k41 u) else (lt (mR u x0 24) fun r1 => oB r1 fun n1 => ix x1 (mN u n1) (lt (fun (u2 : zM) => f_X3_week_L6 x0 k41 n (x1 + 1) u2) fun j1 => if (((mI u x0 0) + (mI u n1 (xN x1))) - ((mI u x0 0) + (mI u n1 (xN x1))) / 4 * 4) = 0 then (bd (f_X3_buys x0 x1 u) fun v2 u3 => j1 u3) else (j1 u)))
section
variable {c0 s0 : Nat} {tbv : List ExceptionTableEntry}
set_option maxHeartbeats 4000000 in
theorem g_X3_week_L6 (x0 : Nat) (k41 : zM → Option (Unit × zM)) (t_x0 : kd x0 = 3) (hk41 : ∀ (u : zM), Go RX3 cX3_week 2 (none) false 8 159 [] (obT) (zQ rvV) c0 s0 41 [(0, .ref x0)] [] [] u (k41 u)) : ∀ (n : Nat) (x1 : Int32) (u : zM), Go RX3 cX3_week 2 (none) false 8 159 [] (obT) (zQ rvV) c0 s0 6 [(0, .ref x0), (1, .int x1)] [] [] u (f_X3_week_L6 x0 k41 n x1 u) := by
  intro n
  induction n with
  | zero => intros; exact go_none
  | succ n ih =>
    intro x1 u
    unfold f_X3_week_L6
    refine go_iload_n (pc := 6) (j := 1) (i := 1) dX3_week_6 rfl rfl ?_
    refine go_aload_n (pc := 7) (j := 0) (i := 0) dX3_week_7 rfl rfl ?_
    refine go_getI (pc := 8) (n := x0) (ci := 3) (k := 2) fa_X3_278_3 t_x0 rfl dX3_week_8 ?_
    refine go_icmp_ge (pc := 11) (tgt := 41) dX3_week_11 (by decide) (fun h1 => ?_) (fun h1 => ?_)
    · exact go_weak (A' := [(0, .ref x0)]) (B' := []) ⟨rfl, trivial⟩ rfl (fun q h => by cases h) (hk41 u)
    · refine go_aload_n (pc := 14) (j := 0) (i := 0) dX3_week_14 rfl rfl ?_
      refine go_getI (pc := 15) (n := x0) (ci := 3) (k := 0) fa_X3_286_3 t_x0 rfl dX3_week_15 ?_
      refine go_aload_n (pc := 18) (j := 0) (i := 0) dX3_week_18 rfl rfl ?_
      refine go_getR (pc := 19) (n := x0) (ci := 3) (k := 24) (t := 13) fa_X3_75_3 t_x0 rfl dX3_week_19 fun r1 t_r1 => ?_
      refine go_iload_n (pc := 22) (j := 1) (i := 1) dX3_week_22 rfl rfl ?_
      refine go_oB fun n1 e_n1 => ?_
      have t_n1 := t_r1 n1 e_n1
      subst e_n1
      refine go_iald (pc := 23) t_n1 dX3_week_23 ?_
      refine go_iadd (pc := 24) dX3_week_24 ?_
      refine go_iconst (pc := 25) (v := 4) dX3_week_25 (by decide) ?_
      refine go_irem (pc := 26) dX3_week_26 (by decide) ?_
      refine go_join0 (pcx := 35) ([(0, .ref x0), (1, .int x1)]) ([]) ([]) (True) (fun u2 _ => ?_) (fun j1 hj1 => ?_)
      · refine go_iinc (pc := 35) (i := 1) (w := 1) (A' := [(0, .ref x0), (1, .int (x1 + 1))]) rfl (by decide) (by decide) rfl rfl rfl dX3_week_35 ?_
        refine go_goto (pc := 38) (tgt := 6) dX3_week_38 (by decide) ?_
        exact go_weak (A' := [(0, .ref x0), (1, .int (x1 + 1))]) (B' := []) ⟨rfl, rfl, trivial⟩ rfl (fun q h => by cases h) (ih (x1 + 1) u2)
      · refine go_if_ne (pc := 27) (tgt := 35) dX3_week_27 (by decide) (fun h2 => ?_) (fun h2 => ?_)
        · refine go_aload_n (pc := 30) (j := 0) (i := 0) dX3_week_30 rfl rfl ?_
          refine go_iload_n (pc := 31) (j := 1) (i := 1) dX3_week_31 rfl rfl ?_
          refine go_callVV (pc := 32) (ci := 3) (ct_X3_buys x0 x1 t_x0) lk_X3_556 rfl rfl rfl (by decide) t_x0 ⟨by decide, by decide⟩ (Nat.le_of_ble_eq_true rfl) dX3_week_32 rfl fun v2 u3 => ?_
          exact go_weak (A' := [(0, .ref x0), (1, .int x1)]) (B' := []) ⟨rfl, rfl, trivial⟩ rfl (fun q h => by cases h) (hj1 u3 trivial)
        · exact go_weak (A' := [(0, .ref x0), (1, .int x1)]) (B' := []) ⟨rfl, rfl, trivial⟩ rfl (fun q h => by cases h) (hj1 u trivial)
end
def f_X3_week_L63 (x0 : Nat) (k97 : zM → Option (Unit × zM)) : Nat → Int32 → zM → Option (Unit × zM)
  | 0, _, _ => none
  | n + 1, x1, u => if (mI u x0 1) ≤ x1 then (k97 u) else (lt (mR u x0 91) fun r2 => oB r2 fun n2 => ix (mI u x0 0) (mN u n2) (lt (mR u n2 (xN (mI u x0 0))) fun r3 => oB r3 fun n3 => ix 0 (mN u n3) (lt (mR u x0 7) fun r4 => oB r4 fun n4 => ix x1 (mN u n4) (ix 0 (mN u n3) (lt (sI u n3 (xN 0) ((mI u n3 (xN 0)) + (mI u n4 (xN x1)))) fun u7 => f_X3_week_L63 x0 k97 n (x1 + 1) u7)))))
section
variable {c0 s0 : Nat} {tbv : List ExceptionTableEntry}
set_option maxHeartbeats 4000000 in
theorem g_X3_week_L63 (x0 : Nat) (k97 : zM → Option (Unit × zM)) (t_x0 : kd x0 = 3) (hk97 : ∀ (u : zM), Go RX3 cX3_week 2 (none) false 8 159 [] (obT) (zQ rvV) c0 s0 97 [(0, .ref x0)] [] [] u (k97 u)) : ∀ (n : Nat) (x1 : Int32) (u : zM), Go RX3 cX3_week 2 (none) false 8 159 [] (obT) (zQ rvV) c0 s0 63 [(0, .ref x0), (1, .int x1)] [] [] u (f_X3_week_L63 x0 k97 n x1 u) := by
  intro n
  induction n with
  | zero => intros; exact go_none
  | succ n ih =>
    intro x1 u
    unfold f_X3_week_L63
    refine go_iload_n (pc := 63) (j := 1) (i := 1) dX3_week_63 rfl rfl ?_
    refine go_aload_n (pc := 64) (j := 0) (i := 0) dX3_week_64 rfl rfl ?_
    refine go_getI (pc := 65) (n := x0) (ci := 3) (k := 1) fa_X3_270_3 t_x0 rfl dX3_week_65 ?_
    refine go_icmp_ge (pc := 68) (tgt := 97) dX3_week_68 (by decide) (fun h3 => ?_) (fun h3 => ?_)
    · exact go_weak (A' := [(0, .ref x0)]) (B' := []) ⟨rfl, trivial⟩ rfl (fun q h => by cases h) (hk97 u)
    · refine go_aload_n (pc := 71) (j := 0) (i := 0) dX3_week_71 rfl rfl ?_
      refine go_getR (pc := 72) (n := x0) (ci := 3) (k := 91) (t := 23) fa_X3_255_3 t_x0 rfl dX3_week_72 fun r2 t_r2 => ?_
      refine go_aload_n (pc := 75) (j := 0) (i := 0) dX3_week_75 rfl rfl ?_
      refine go_getI (pc := 76) (n := x0) (ci := 3) (k := 0) fa_X3_286_3 t_x0 rfl dX3_week_76 ?_
      refine go_oB fun n2 e_n2 => ?_
      have t_n2 := t_r2 n2 e_n2
      subst e_n2
      refine go_aald (pc := 79) (n := n2) (ci := 23) (t := 13) (by decide) (by decide) t_n2 rfl dX3_week_79 fun r3 t_r3 => ?_
      refine go_iconst (pc := 80) (v := 0) dX3_week_80 (by decide) ?_
      refine go_oB fun n3 e_n3 => ?_
      have t_n3 := t_r3 n3 e_n3
      subst e_n3
      refine go_dup2 (pc := 81) dX3_week_81 ?_
      refine go_iald (pc := 82) t_n3 dX3_week_82 ?_
      refine go_aload_n (pc := 83) (j := 0) (i := 0) dX3_week_83 rfl rfl ?_
      refine go_getR (pc := 84) (n := x0) (ci := 3) (k := 7) (t := 13) fa_X3_24_3 t_x0 rfl dX3_week_84 fun r4 t_r4 => ?_
      refine go_iload_n (pc := 87) (j := 1) (i := 1) dX3_week_87 rfl rfl ?_
      refine go_oB fun n4 e_n4 => ?_
      have t_n4 := t_r4 n4 e_n4
      subst e_n4
      refine go_iald (pc := 88) t_n4 dX3_week_88 ?_
      refine go_iadd (pc := 89) dX3_week_89 ?_
      refine go_iast (pc := 90) t_n3 dX3_week_90 fun u7 => ?_
      refine go_iinc (pc := 91) (i := 1) (w := 1) (A' := [(0, .ref x0), (1, .int (x1 + 1))]) rfl (by decide) (by decide) rfl rfl rfl dX3_week_91 ?_
      refine go_goto (pc := 94) (tgt := 63) dX3_week_94 (by decide) ?_
      exact go_weak (A' := [(0, .ref x0), (1, .int (x1 + 1))]) (B' := []) ⟨rfl, rfl, trivial⟩ rfl (fun q h => by cases h) (ih (x1 + 1) u7)
end
def f_X3_week_L99 (x0 : Nat) (k133 : zM → Option (Unit × zM)) : Nat → Int32 → zM → Option (Unit × zM)
  | 0, _, _ => none
  | n + 1, x1, u => if (mI u x0 64) ≤ x1 then (k133 u) else (lt (mR u x0 91) fun r5 => oB r5 fun n5 => ix (mI u x0 0) (mN u n5) (lt (mR u n5 (xN (mI u x0 0))) fun r6 => oB r6 fun n6 => ix 2 (mN u n6) (lt (mR u x0 63) fun r7 => oB r7 fun n7 => ix x1 (mN u n7) (ix 2 (mN u n6) (lt (sI u n6 (xN 2) ((mI u n6 (xN 2)) + (mI u n7 (xN x1)))) fun u9 => f_X3_week_L99 x0 k133 n (x1 + 1) u9)))))
section
variable {c0 s0 : Nat} {tbv : List ExceptionTableEntry}
set_option maxHeartbeats 4000000 in
theorem g_X3_week_L99 (x0 : Nat) (k133 : zM → Option (Unit × zM)) (t_x0 : kd x0 = 3) (hk133 : ∀ (u : zM), Go RX3 cX3_week 2 (none) false 8 159 [] (obT) (zQ rvV) c0 s0 133 [(0, .ref x0)] [] [] u (k133 u)) : ∀ (n : Nat) (x1 : Int32) (u : zM), Go RX3 cX3_week 2 (none) false 8 159 [] (obT) (zQ rvV) c0 s0 99 [(0, .ref x0), (1, .int x1)] [] [] u (f_X3_week_L99 x0 k133 n x1 u) := by
  intro n
  induction n with
  | zero => intros; exact go_none
  | succ n ih =>
    intro x1 u
    unfold f_X3_week_L99
    refine go_iload_n (pc := 99) (j := 1) (i := 1) dX3_week_99 rfl rfl ?_
    refine go_aload_n (pc := 100) (j := 0) (i := 0) dX3_week_100 rfl rfl ?_
    refine go_getI (pc := 101) (n := x0) (ci := 3) (k := 64) fa_X3_451_3 t_x0 rfl dX3_week_101 ?_
    refine go_icmp_ge (pc := 104) (tgt := 133) dX3_week_104 (by decide) (fun h4 => ?_) (fun h4 => ?_)
    · exact go_weak (A' := [(0, .ref x0)]) (B' := []) ⟨rfl, trivial⟩ rfl (fun q h => by cases h) (hk133 u)
    · refine go_aload_n (pc := 107) (j := 0) (i := 0) dX3_week_107 rfl rfl ?_
      refine go_getR (pc := 108) (n := x0) (ci := 3) (k := 91) (t := 23) fa_X3_255_3 t_x0 rfl dX3_week_108 fun r5 t_r5 => ?_
      refine go_aload_n (pc := 111) (j := 0) (i := 0) dX3_week_111 rfl rfl ?_
      refine go_getI (pc := 112) (n := x0) (ci := 3) (k := 0) fa_X3_286_3 t_x0 rfl dX3_week_112 ?_
      refine go_oB fun n5 e_n5 => ?_
      have t_n5 := t_r5 n5 e_n5
      subst e_n5
      refine go_aald (pc := 115) (n := n5) (ci := 23) (t := 13) (by decide) (by decide) t_n5 rfl dX3_week_115 fun r6 t_r6 => ?_
      refine go_iconst (pc := 116) (v := 2) dX3_week_116 (by decide) ?_
      refine go_oB fun n6 e_n6 => ?_
      have t_n6 := t_r6 n6 e_n6
      subst e_n6
      refine go_dup2 (pc := 117) dX3_week_117 ?_
      refine go_iald (pc := 118) t_n6 dX3_week_118 ?_
      refine go_aload_n (pc := 119) (j := 0) (i := 0) dX3_week_119 rfl rfl ?_
      refine go_getR (pc := 120) (n := x0) (ci := 3) (k := 63) (t := 13) fa_X3_200_3 t_x0 rfl dX3_week_120 fun r7 t_r7 => ?_
      refine go_iload_n (pc := 123) (j := 1) (i := 1) dX3_week_123 rfl rfl ?_
      refine go_oB fun n7 e_n7 => ?_
      have t_n7 := t_r7 n7 e_n7
      subst e_n7
      refine go_iald (pc := 124) t_n7 dX3_week_124 ?_
      refine go_iadd (pc := 125) dX3_week_125 ?_
      refine go_iast (pc := 126) t_n6 dX3_week_126 fun u9 => ?_
      refine go_iinc (pc := 127) (i := 1) (w := 1) (A' := [(0, .ref x0), (1, .int (x1 + 1))]) rfl (by decide) (by decide) rfl rfl rfl dX3_week_127 ?_
      refine go_goto (pc := 130) (tgt := 99) dX3_week_130 (by decide) ?_
      exact go_weak (A' := [(0, .ref x0), (1, .int (x1 + 1))]) (B' := []) ⟨rfl, rfl, trivial⟩ rfl (fun q h => by cases h) (ih (x1 + 1) u9)
end
def f_X3_week_L190 (x0 : Nat) (k221 : zM → Option (Unit × zM)) : Nat → Int32 → zM → Option (Unit × zM)
  | 0, _, _ => none
  | n + 1, x1, u => if (mI u x0 1) ≤ x1 then (k221 u) else (lt (mR u x0 5) fun r14 => oB r14 fun n14 => ix x1 (mN u n14) (lt (mR u n14 (xN x1)) fun r15 => lt (mR u x0 12) fun r16 => oB r16 fun n15 => ix x1 (mN u n15) (oB r15 fun n16 => ix (mI u x0 0) (mN u n16) (lt (sI u n16 (xN (mI u x0 0)) (mI u n15 (xN x1))) fun u15 => f_X3_week_L190 x0 k221 n (x1 + 1) u15))))
section
variable {c0 s0 : Nat} {tbv : List ExceptionTableEntry}
set_option maxHeartbeats 4000000 in
theorem g_X3_week_L190 (x0 : Nat) (k221 : zM → Option (Unit × zM)) (t_x0 : kd x0 = 3) (hk221 : ∀ (u : zM), Go RX3 cX3_week 2 (none) false 8 159 [] (obT) (zQ rvV) c0 s0 221 [(0, .ref x0)] [] [] u (k221 u)) : ∀ (n : Nat) (x1 : Int32) (u : zM), Go RX3 cX3_week 2 (none) false 8 159 [] (obT) (zQ rvV) c0 s0 190 [(0, .ref x0), (1, .int x1)] [] [] u (f_X3_week_L190 x0 k221 n x1 u) := by
  intro n
  induction n with
  | zero => intros; exact go_none
  | succ n ih =>
    intro x1 u
    unfold f_X3_week_L190
    refine go_iload_n (pc := 190) (j := 1) (i := 1) dX3_week_190 rfl rfl ?_
    refine go_aload_n (pc := 191) (j := 0) (i := 0) dX3_week_191 rfl rfl ?_
    refine go_getI (pc := 192) (n := x0) (ci := 3) (k := 1) fa_X3_270_3 t_x0 rfl dX3_week_192 ?_
    refine go_icmp_ge (pc := 195) (tgt := 221) dX3_week_195 (by decide) (fun h5 => ?_) (fun h5 => ?_)
    · exact go_weak (A' := [(0, .ref x0)]) (B' := []) ⟨rfl, trivial⟩ rfl (fun q h => by cases h) (hk221 u)
    · refine go_aload_n (pc := 198) (j := 0) (i := 0) dX3_week_198 rfl rfl ?_
      refine go_getR (pc := 199) (n := x0) (ci := 3) (k := 5) (t := 23) fa_X3_17_3 t_x0 rfl dX3_week_199 fun r14 t_r14 => ?_
      refine go_iload_n (pc := 202) (j := 1) (i := 1) dX3_week_202 rfl rfl ?_
      refine go_oB fun n14 e_n14 => ?_
      have t_n14 := t_r14 n14 e_n14
      subst e_n14
      refine go_aald (pc := 203) (n := n14) (ci := 23) (t := 13) (by decide) (by decide) t_n14 rfl dX3_week_203 fun r15 t_r15 => ?_
      refine go_aload_n (pc := 204) (j := 0) (i := 0) dX3_week_204 rfl rfl ?_
      refine go_getI (pc := 205) (n := x0) (ci := 3) (k := 0) fa_X3_286_3 t_x0 rfl dX3_week_205 ?_
      refine go_aload_n (pc := 208) (j := 0) (i := 0) dX3_week_208 rfl rfl ?_
      refine go_getR (pc := 209) (n := x0) (ci := 3) (k := 12) (t := 13) fa_X3_39_3 t_x0 rfl dX3_week_209 fun r16 t_r16 => ?_
      refine go_iload_n (pc := 212) (j := 1) (i := 1) dX3_week_212 rfl rfl ?_
      refine go_oB fun n15 e_n15 => ?_
      have t_n15 := t_r16 n15 e_n15
      subst e_n15
      refine go_iald (pc := 213) t_n15 dX3_week_213 ?_
      refine go_oB fun n16 e_n16 => ?_
      have t_n16 := t_r15 n16 e_n16
      subst e_n16
      refine go_iast (pc := 214) t_n16 dX3_week_214 fun u15 => ?_
      refine go_iinc (pc := 215) (i := 1) (w := 1) (A' := [(0, .ref x0), (1, .int (x1 + 1))]) rfl (by decide) (by decide) rfl rfl rfl dX3_week_215 ?_
      refine go_goto (pc := 218) (tgt := 190) dX3_week_218 (by decide) ?_
      exact go_weak (A' := [(0, .ref x0), (1, .int (x1 + 1))]) (B' := []) ⟨rfl, rfl, trivial⟩ rfl (fun q h => by cases h) (ih (x1 + 1) u15)
end
def f_X3_week_L223 (x0 : Nat) : Nat → Int32 → zM → Option (Unit × zM)
  | 0, _, _ => none
  | n + 1, x1, u => if (mI u x0 2) ≤ x1 then (some ((), u)) else (lt (mR u x0 33) fun r17 => oB r17 fun n17 => ix x1 (mN u n17) (lt (sI u n17 (xN x1) 0) fun u17 => f_X3_week_L223 x0 n (x1 + 1) u17))
section
variable {c0 s0 : Nat} {tbv : List ExceptionTableEntry}
set_option maxHeartbeats 4000000 in
theorem g_X3_week_L223 (x0 : Nat) (t_x0 : kd x0 = 3) : ∀ (n : Nat) (x1 : Int32) (u : zM), Go RX3 cX3_week 2 (none) false 8 159 [] (obT) (zQ rvV) c0 s0 223 [(0, .ref x0), (1, .int x1)] [] [] u (f_X3_week_L223 x0 n x1 u) := by
  intro n
  induction n with
  | zero => intros; exact go_none
  | succ n ih =>
    intro x1 u
    unfold f_X3_week_L223
    refine go_iload_n (pc := 223) (j := 1) (i := 1) dX3_week_223 rfl rfl ?_
    refine go_aload_n (pc := 224) (j := 0) (i := 0) dX3_week_224 rfl rfl ?_
    refine go_getI (pc := 225) (n := x0) (ci := 3) (k := 2) fa_X3_278_3 t_x0 rfl dX3_week_225 ?_
    refine go_icmp_ge (pc := 228) (tgt := 244) dX3_week_228 (by decide) (fun h6 => ?_) (fun h6 => ?_)
    · exact go_vreturn (pc := 244) rfl dX3_week_244
    · refine go_aload_n (pc := 231) (j := 0) (i := 0) dX3_week_231 rfl rfl ?_
      refine go_getR (pc := 232) (n := x0) (ci := 3) (k := 33) (t := 13) fa_X3_102_3 t_x0 rfl dX3_week_232 fun r17 t_r17 => ?_
      refine go_iload_n (pc := 235) (j := 1) (i := 1) dX3_week_235 rfl rfl ?_
      refine go_iconst (pc := 236) (v := 0) dX3_week_236 (by decide) ?_
      refine go_oB fun n17 e_n17 => ?_
      have t_n17 := t_r17 n17 e_n17
      subst e_n17
      refine go_iast (pc := 237) t_n17 dX3_week_237 fun u17 => ?_
      refine go_iinc (pc := 238) (i := 1) (w := 1) (A' := [(0, .ref x0), (1, .int (x1 + 1))]) rfl (by decide) (by decide) rfl rfl rfl dX3_week_238 ?_
      refine go_goto (pc := 241) (tgt := 223) dX3_week_241 (by decide) ?_
      exact go_weak (A' := [(0, .ref x0), (1, .int (x1 + 1))]) (B' := []) ⟨rfl, rfl, trivial⟩ rfl (fun q h => by cases h) (ih (x1 + 1) u17)
end
def f_X3_week (self : Nat) (u : zM) : Option (Unit × zM) := bd (f_X3_lays self u) fun v1 u1 => f_X3_week_L6 self (fun u4 => lt (fun (u5 : zM) => bd (f_X3_goRound self u5) fun v3 u6 => f_X3_week_L63 self (fun u8 => f_X3_week_L99 self (fun u10 => lt (mR u10 self 91) fun r8 => oB r8 fun n8 => ix (mI u10 self 0) (mN u10 n8) (lt (mR u10 n8 (xN (mI u10 self 0))) fun r9 => oB r9 fun n9 => ix 3 (mN u10 n9) (lt (sI u10 n9 (xN 3) (mI u10 self 69)) fun u11 => lt (mR u11 self 91) fun r10 => oB r10 fun n10 => ix (mI u11 self 0) (mN u11 n10) (lt (mR u11 n10 (xN (mI u11 self 0))) fun r11 => oB r11 fun n11 => ix 4 (mN u11 n11) (lt (sI u11 n11 (xN 4) (mI u11 self 70)) fun u12 => lt (mR u12 self 91) fun r12 => oB r12 fun n12 => ix (mI u12 self 0) (mN u12 n12) (lt (mR u12 n12 (xN (mI u12 self 0))) fun r13 => oB r13 fun n13 => ix 5 (mN u12 n13) (lt (sI u12 n13 (xN 5) (mI u12 self 71)) fun u13 => lt (sI u13 self 0 ((mI u13 self 0) + 1)) fun u14 => f_X3_week_L190 self (fun u16 => f_X3_week_L223 self zFu 0 u16) zFu 0 u14))))))) zFu 0 u8) zFu 0 u6) fun j2 => if ((mI u4 self 0) - (mI u4 self 0) / 13 * 13) = 12 then (bd (f_X3_seasons self u4) fun v4 u18 => j2 u18) else (j2 u4)) zFu 0 u1
set_option maxHeartbeats 4000000 in
theorem ct_X3_week (self : Nat) (t_self : kd self = 3) : zMet yX3_week cX3_week 2 (none) 8 159 rvV (obT) [.ref self] (f_X3_week self) := by
  refine zMet_of (A := [(0, .ref self)]) (B := []) (ini := false) RX3 rfl (by decide +kernel) (fun h => by cases h) (by simp [lg_sl, Value.category]) (by simp [lv_args, Value.category]) rfl (by simp [lv_args, Value.category]) fun u => ?_
  unfold f_X3_week
  refine go_aload_n (pc := 0) (j := 0) (i := 0) dX3_week_0 rfl rfl ?_
  refine go_callVV (pc := 1) (ci := 3) (ct_X3_lays self t_self) lk_X3_553 rfl rfl rfl (by decide) t_self ⟨by decide, by decide⟩ (Nat.le_of_ble_eq_true rfl) dX3_week_1 rfl fun v1 u1 => ?_
  refine go_iconst (pc := 4) (v := 0) dX3_week_4 (by decide) ?_
  refine go_istore_n (pc := 5) (j := 1) (i := 1) (A' := [(0, .ref self), (1, .int 0)]) rfl (by decide) rfl rfl rfl dX3_week_5 ?_
  refine go_weak (A' := [(0, .ref self), (1, .int 0)]) (B' := []) ⟨rfl, rfl, trivial⟩ rfl (fun q h => by cases h) (g_X3_week_L6 self _ t_self ?_ zFu 0 u1)
  · intro u4
    refine go_aload_n (pc := 41) (j := 0) (i := 0) dX3_week_41 rfl rfl ?_
    refine go_getI (pc := 42) (n := self) (ci := 3) (k := 0) fa_X3_286_3 t_self rfl dX3_week_42 ?_
    refine go_bipush (pc := 45) (v := 13) dX3_week_45 (by decide) ?_
    refine go_irem (pc := 47) dX3_week_47 (by decide) ?_
    refine go_bipush (pc := 48) (v := 12) dX3_week_48 (by decide) ?_
    refine go_join0 (pcx := 57) ([(0, .ref self)]) ([]) ([]) (True) (fun u5 _ => ?_) (fun j2 hj2 => ?_)
    · refine go_aload_n (pc := 57) (j := 0) (i := 0) dX3_week_57 rfl rfl ?_
      refine go_callVV (pc := 58) (ci := 3) (ct_X3_goRound self t_self) lk_X3_562 rfl rfl rfl (by decide) t_self ⟨by decide, by decide⟩ (Nat.le_of_ble_eq_true rfl) dX3_week_58 rfl fun v3 u6 => ?_
      refine go_iconst (pc := 61) (v := 0) dX3_week_61 (by decide) ?_
      refine go_istore_n (pc := 62) (j := 1) (i := 1) (A' := [(0, .ref self), (1, .int 0)]) rfl (by decide) rfl rfl rfl dX3_week_62 ?_
      refine go_weak (A' := [(0, .ref self), (1, .int 0)]) (B' := []) ⟨rfl, rfl, trivial⟩ rfl (fun q h => by cases h) (g_X3_week_L63 self _ t_self ?_ zFu 0 u6)
      · intro u8
        refine go_iconst (pc := 97) (v := 0) dX3_week_97 (by decide) ?_
        refine go_istore_n (pc := 98) (j := 1) (i := 1) (A' := [(0, .ref self), (1, .int 0)]) rfl (by decide) rfl rfl rfl dX3_week_98 ?_
        refine go_weak (A' := [(0, .ref self), (1, .int 0)]) (B' := []) ⟨rfl, rfl, trivial⟩ rfl (fun q h => by cases h) (g_X3_week_L99 self _ t_self ?_ zFu 0 u8)
        · intro u10
          refine go_aload_n (pc := 133) (j := 0) (i := 0) dX3_week_133 rfl rfl ?_
          refine go_getR (pc := 134) (n := self) (ci := 3) (k := 91) (t := 23) fa_X3_255_3 t_self rfl dX3_week_134 fun r8 t_r8 => ?_
          refine go_aload_n (pc := 137) (j := 0) (i := 0) dX3_week_137 rfl rfl ?_
          refine go_getI (pc := 138) (n := self) (ci := 3) (k := 0) fa_X3_286_3 t_self rfl dX3_week_138 ?_
          refine go_oB fun n8 e_n8 => ?_
          have t_n8 := t_r8 n8 e_n8
          subst e_n8
          refine go_aald (pc := 141) (n := n8) (ci := 23) (t := 13) (by decide) (by decide) t_n8 rfl dX3_week_141 fun r9 t_r9 => ?_
          refine go_iconst (pc := 142) (v := 3) dX3_week_142 (by decide) ?_
          refine go_aload_n (pc := 143) (j := 0) (i := 0) dX3_week_143 rfl rfl ?_
          refine go_getI (pc := 144) (n := self) (ci := 3) (k := 69) fa_X3_469_3 t_self rfl dX3_week_144 ?_
          refine go_oB fun n9 e_n9 => ?_
          have t_n9 := t_r9 n9 e_n9
          subst e_n9
          refine go_iast (pc := 147) t_n9 dX3_week_147 fun u11 => ?_
          refine go_aload_n (pc := 148) (j := 0) (i := 0) dX3_week_148 rfl rfl ?_
          refine go_getR (pc := 149) (n := self) (ci := 3) (k := 91) (t := 23) fa_X3_255_3 t_self rfl dX3_week_149 fun r10 t_r10 => ?_
          refine go_aload_n (pc := 152) (j := 0) (i := 0) dX3_week_152 rfl rfl ?_
          refine go_getI (pc := 153) (n := self) (ci := 3) (k := 0) fa_X3_286_3 t_self rfl dX3_week_153 ?_
          refine go_oB fun n10 e_n10 => ?_
          have t_n10 := t_r10 n10 e_n10
          subst e_n10
          refine go_aald (pc := 156) (n := n10) (ci := 23) (t := 13) (by decide) (by decide) t_n10 rfl dX3_week_156 fun r11 t_r11 => ?_
          refine go_iconst (pc := 157) (v := 4) dX3_week_157 (by decide) ?_
          refine go_aload_n (pc := 158) (j := 0) (i := 0) dX3_week_158 rfl rfl ?_
          refine go_getI (pc := 159) (n := self) (ci := 3) (k := 70) fa_X3_498_3 t_self rfl dX3_week_159 ?_
          refine go_oB fun n11 e_n11 => ?_
          have t_n11 := t_r11 n11 e_n11
          subst e_n11
          refine go_iast (pc := 162) t_n11 dX3_week_162 fun u12 => ?_
          refine go_aload_n (pc := 163) (j := 0) (i := 0) dX3_week_163 rfl rfl ?_
          refine go_getR (pc := 164) (n := self) (ci := 3) (k := 91) (t := 23) fa_X3_255_3 t_self rfl dX3_week_164 fun r12 t_r12 => ?_
          refine go_aload_n (pc := 167) (j := 0) (i := 0) dX3_week_167 rfl rfl ?_
          refine go_getI (pc := 168) (n := self) (ci := 3) (k := 0) fa_X3_286_3 t_self rfl dX3_week_168 ?_
          refine go_oB fun n12 e_n12 => ?_
          have t_n12 := t_r12 n12 e_n12
          subst e_n12
          refine go_aald (pc := 171) (n := n12) (ci := 23) (t := 13) (by decide) (by decide) t_n12 rfl dX3_week_171 fun r13 t_r13 => ?_
          refine go_iconst (pc := 172) (v := 5) dX3_week_172 (by decide) ?_
          refine go_aload_n (pc := 173) (j := 0) (i := 0) dX3_week_173 rfl rfl ?_
          refine go_getI (pc := 174) (n := self) (ci := 3) (k := 71) fa_X3_460_3 t_self rfl dX3_week_174 ?_
          refine go_oB fun n13 e_n13 => ?_
          have t_n13 := t_r13 n13 e_n13
          subst e_n13
          refine go_iast (pc := 177) t_n13 dX3_week_177 fun u13 => ?_
          refine go_aload_n (pc := 178) (j := 0) (i := 0) dX3_week_178 rfl rfl ?_
          refine go_dupA (pc := 179) dX3_week_179 ?_
          refine go_getI (pc := 180) (n := self) (ci := 3) (k := 0) fa_X3_286_3 t_self rfl dX3_week_180 ?_
          refine go_iconst (pc := 183) (v := 1) dX3_week_183 (by decide) ?_
          refine go_iadd (pc := 184) dX3_week_184 ?_
          refine go_putI (pc := 185) (n := self) (ci := 3) (k := 0) (v := ((mI u13 self 0) + 1)) pa_X3_286_3 (fun h => by cases h) t_self rfl zKeep_int dX3_week_185 fun u14 => ?_
          refine go_iconst (pc := 188) (v := 0) dX3_week_188 (by decide) ?_
          refine go_istore_n (pc := 189) (j := 1) (i := 1) (A' := [(0, .ref self), (1, .int 0)]) rfl (by decide) rfl rfl rfl dX3_week_189 ?_
          refine go_weak (A' := [(0, .ref self), (1, .int 0)]) (B' := []) ⟨rfl, rfl, trivial⟩ rfl (fun q h => by cases h) (g_X3_week_L190 self _ t_self ?_ zFu 0 u14)
          · intro u16
            refine go_iconst (pc := 221) (v := 0) dX3_week_221 (by decide) ?_
            refine go_istore_n (pc := 222) (j := 1) (i := 1) (A' := [(0, .ref self), (1, .int 0)]) rfl (by decide) rfl rfl rfl dX3_week_222 ?_
            exact go_weak (A' := [(0, .ref self), (1, .int 0)]) (B' := []) ⟨rfl, rfl, trivial⟩ rfl (fun q h => by cases h) (g_X3_week_L223 self t_self zFu 0 u16)
    · refine go_icmp_ne (pc := 50) (tgt := 57) dX3_week_50 (by decide) (fun h7 => ?_) (fun h7 => ?_)
      · refine go_aload_n (pc := 53) (j := 0) (i := 0) dX3_week_53 rfl rfl ?_
        refine go_callVV (pc := 54) (ci := 3) (ct_X3_seasons self t_self) lk_X3_559 rfl rfl rfl (by decide) t_self ⟨by decide, by decide⟩ (Nat.le_of_ble_eq_true rfl) dX3_week_54 rfl fun v4 u18 => ?_
        exact go_weak (A' := [(0, .ref self)]) (B' := []) ⟨rfl, trivial⟩ rfl (fun q h => by cases h) (hj2 u18 trivial)
      · exact go_weak (A' := [(0, .ref self)]) (B' := []) ⟨rfl, trivial⟩ rfl (fun q h => by cases h) (hj2 u4 trivial)

def f_X3_go_L16 (x0 : Nat) (x1 : Int32) : Nat → Int32 → zM → Option (Int32 × zM)
  | 0, _, _ => none
  | n + 1, x2, u => if x1 ≤ x2 then (some ((mI u x0 0), u)) else (if 156 ≤ (mI u x0 0) then (some ((mI u x0 0), u)) else (bd (f_X3_week x0 u) fun v2 u2 => f_X3_go_L16 x0 x1 n (x2 + 1) u2))
section
variable {c0 s0 : Nat} {tbv : List ExceptionTableEntry}
set_option maxHeartbeats 4000000 in
theorem g_X3_go_L16 (x0 : Nat) (x1 : Int32) (t_x0 : kd x0 = 3) : ∀ (n : Nat) (x2 : Int32) (u : zM), Go RX3 cX3_go 3 (some .int) false 9 180 [] (obT) (zQ rvI) c0 s0 16 [(0, .ref x0), (1, .int x1), (2, .int x2)] [] [] u (f_X3_go_L16 x0 x1 n x2 u) := by
  intro n
  induction n with
  | zero => intros; exact go_none
  | succ n ih =>
    intro x2 u
    unfold f_X3_go_L16
    refine go_iload_n (pc := 16) (j := 2) (i := 2) dX3_go_16 rfl rfl ?_
    refine go_iload_n (pc := 17) (j := 1) (i := 1) dX3_go_17 rfl rfl ?_
    refine go_icmp_ge (pc := 18) (tgt := 41) dX3_go_18 (by decide) (fun h2 => ?_) (fun h2 => ?_)
    · refine go_aload_n (pc := 41) (j := 0) (i := 0) dX3_go_41 rfl rfl ?_
      refine go_getI (pc := 42) (n := x0) (ci := 3) (k := 0) fa_X3_286_3 t_x0 rfl dX3_go_42 ?_
      exact go_ireturn (pc := 45) rfl dX3_go_45
    · refine go_aload_n (pc := 21) (j := 0) (i := 0) dX3_go_21 rfl rfl ?_
      refine go_getI (pc := 22) (n := x0) (ci := 3) (k := 0) fa_X3_286_3 t_x0 rfl dX3_go_22 ?_
      refine go_sipush (pc := 25) (v := 156) dX3_go_25 (by decide) ?_
      refine go_icmp_ge (pc := 28) (tgt := 41) dX3_go_28 (by decide) (fun h3 => ?_) (fun h3 => ?_)
      · refine go_aload_n (pc := 41) (j := 0) (i := 0) dX3_go_41 rfl rfl ?_
        refine go_getI (pc := 42) (n := x0) (ci := 3) (k := 0) fa_X3_286_3 t_x0 rfl dX3_go_42 ?_
        exact go_ireturn (pc := 45) rfl dX3_go_45
      · refine go_aload_n (pc := 31) (j := 0) (i := 0) dX3_go_31 rfl rfl ?_
        refine go_callVV (pc := 32) (ci := 3) (ct_X3_week x0 t_x0) lk_X3_567 rfl rfl rfl (by decide) t_x0 ⟨by decide, by decide⟩ (Nat.le_of_ble_eq_true rfl) dX3_go_32 rfl fun v2 u2 => ?_
        refine go_iinc (pc := 35) (i := 2) (w := 1) (A' := [(0, .ref x0), (1, .int x1), (2, .int (x2 + 1))]) rfl (by decide) (by decide) rfl rfl rfl dX3_go_35 ?_
        refine go_goto (pc := 38) (tgt := 16) dX3_go_38 (by decide) ?_
        exact go_weak (A' := [(0, .ref x0), (1, .int x1), (2, .int (x2 + 1))]) (B' := []) ⟨rfl, rfl, rfl, trivial⟩ rfl (fun q h => by cases h) (ih (x2 + 1) u2)
end
def f_X3_go (self : Nat) (p0 : Int32) (u : zM) : Option (Int32 × zM) := bd (f_X3_in (Int32.toInt64 p0) 0 26 u) fun v1 u1 => if v1 = 0 then (some ((-1), u1)) else (f_X3_go_L16 self p0 zFu 0 u1)
set_option maxHeartbeats 4000000 in
theorem ct_X3_go (self : Nat) (p0 : Int32) (t_self : kd self = 3) : zMet yX3_go cX3_go 3 (some .int) 9 180 rvI (obT) [.ref self, .int p0] (f_X3_go self p0) := by
  refine zMet_of (A := [(0, .ref self), (1, .int p0)]) (B := []) (ini := false) RX3 rfl (by decide +kernel) (fun h => by cases h) (by simp [lg_sl, Value.category]) (by simp [lv_args, Value.category]) rfl (by simp [lv_args, Value.category]) fun u => ?_
  unfold f_X3_go
  refine go_iload_n (pc := 0) (j := 1) (i := 1) dX3_go_0 rfl rfl ?_
  refine go_i2l (pc := 1) dX3_go_1 ?_
  refine go_lconst (pc := 2) (v := 0) dX3_go_2 (by decide) ?_
  refine go_ldc2 (pc := 3) (v := 26) dX3_go_3 q1878 ?_
  refine go_callSI (pc := 6) (ct_X3_in (Int32.toInt64 p0) 0 26) lk_X3_274 rfl ⟨by decide, by decide⟩ (Nat.le_of_ble_eq_true rfl) dX3_go_6 rfl fun v1 u1 => ?_
  refine go_if_ne (pc := 9) (tgt := 14) dX3_go_9 (by decide) (fun h1 => ?_) (fun h1 => ?_)
  · refine go_iconst (pc := 12) (v := (-1)) dX3_go_12 (by decide) ?_
    exact go_ireturn (pc := 13) rfl dX3_go_13
  · refine go_iconst (pc := 14) (v := 0) dX3_go_14 (by decide) ?_
    refine go_istore_n (pc := 15) (j := 2) (i := 2) (A' := [(0, .ref self), (1, .int p0), (2, .int 0)]) rfl (by decide) rfl rfl rfl dX3_go_15 ?_
    exact go_weak (A' := [(0, .ref self), (1, .int p0), (2, .int 0)]) (B' := []) ⟨rfl, rfl, rfl, trivial⟩ rfl (fun q h => by cases h) (g_X3_go_L16 self p0 t_self zFu 0 u1)

def f_X3_gift (self : Nat) (p0 : Int32) (p1 : Int32) (p2 : Int32) (u : zM) : Option (Int32 × zM) := bd (f_X3_in (Int32.toInt64 p0) 1 99 u) fun v1 u1 => if v1 = 0 then (some ((-1), u1)) else (bd (f_X3_isHouse self p1 u1) fun v2 u2 => if v2 = 0 then (some ((-1), u2)) else (bd (f_X3_in (Int32.toInt64 p2) 0 2 u2) fun v3 u3 => if v3 = 0 then (some ((-1), u3)) else (if (mI u3 self 96) = 8 then (some ((-1), u3)) else (lt (mR u3 self 93) fun r1 => oB r1 fun n1 => ix (mI u3 self 96) (mN u3 n1) (lt (sI u3 n1 (xN (mI u3 self 96)) p0) fun u4 => lt (mR u4 self 94) fun r2 => oB r2 fun n2 => ix (mI u4 self 96) (mN u4 n2) (lt (sI u4 n2 (xN (mI u4 self 96)) p1) fun u5 => lt (mR u5 self 95) fun r3 => oB r3 fun n3 => ix (mI u5 self 96) (mN u5 n3) (lt (sI u5 n3 (xN (mI u5 self 96)) p2) fun u6 => lt (sI u6 self 96 ((mI u6 self 96) + 1)) fun u7 => some (((mI u7 self 96) - 1), u7))))))))
set_option maxHeartbeats 4000000 in
theorem ct_X3_gift (self : Nat) (p0 : Int32) (p1 : Int32) (p2 : Int32) (t_self : kd self = 3) : zMet yX3_gift cX3_gift 4 (some .int) 3 46 rvI (obT) [.ref self, .int p0, .int p1, .int p2] (f_X3_gift self p0 p1 p2) := by
  refine zMet_of (A := [(0, .ref self), (1, .int p0), (2, .int p1), (3, .int p2)]) (B := []) (ini := false) RX3 rfl (by decide +kernel) (fun h => by cases h) (by simp [lg_sl, Value.category]) (by simp [lv_args, Value.category]) rfl (by simp [lv_args, Value.category]) fun u => ?_
  unfold f_X3_gift
  refine go_iload_n (pc := 0) (j := 1) (i := 1) dX3_gift_0 rfl rfl ?_
  refine go_i2l (pc := 1) dX3_gift_1 ?_
  refine go_lconst (pc := 2) (v := 1) dX3_gift_2 (by decide) ?_
  refine go_ldc2 (pc := 3) (v := 99) dX3_gift_3 q1832 ?_
  refine go_callSI (pc := 6) (ct_X3_in (Int32.toInt64 p0) 1 99) lk_X3_274 rfl ⟨by decide, by decide⟩ (Nat.le_of_ble_eq_true rfl) dX3_gift_6 rfl fun v1 u1 => ?_
  refine go_if_eq (pc := 9) (tgt := 41) dX3_gift_9 (by decide) (fun h1 => ?_) (fun h1 => ?_)
  · refine go_iconst (pc := 41) (v := (-1)) dX3_gift_41 (by decide) ?_
    exact go_ireturn (pc := 42) rfl dX3_gift_42
  · refine go_aload_n (pc := 12) (j := 0) (i := 0) dX3_gift_12 rfl rfl ?_
    refine go_iload_n (pc := 13) (j := 2) (i := 2) dX3_gift_13 rfl rfl ?_
    refine go_callVI (pc := 14) (ci := 3) (ct_X3_isHouse self p1 t_self) lk_X3_297 rfl rfl rfl (by decide) t_self ⟨by decide, by decide⟩ (Nat.le_of_ble_eq_true rfl) dX3_gift_14 rfl fun v2 u2 => ?_
    refine go_if_eq (pc := 17) (tgt := 41) dX3_gift_17 (by decide) (fun h2 => ?_) (fun h2 => ?_)
    · refine go_iconst (pc := 41) (v := (-1)) dX3_gift_41 (by decide) ?_
      exact go_ireturn (pc := 42) rfl dX3_gift_42
    · refine go_iload_n (pc := 20) (j := 3) (i := 3) dX3_gift_20 rfl rfl ?_
      refine go_i2l (pc := 21) dX3_gift_21 ?_
      refine go_lconst (pc := 22) (v := 0) dX3_gift_22 (by decide) ?_
      refine go_ldc2 (pc := 23) (v := 2) dX3_gift_23 q1742 ?_
      refine go_callSI (pc := 26) (ct_X3_in (Int32.toInt64 p2) 0 2) lk_X3_274 rfl ⟨by decide, by decide⟩ (Nat.le_of_ble_eq_true rfl) dX3_gift_26 rfl fun v3 u3 => ?_
      refine go_if_eq (pc := 29) (tgt := 41) dX3_gift_29 (by decide) (fun h3 => ?_) (fun h3 => ?_)
      · refine go_iconst (pc := 41) (v := (-1)) dX3_gift_41 (by decide) ?_
        exact go_ireturn (pc := 42) rfl dX3_gift_42
      · refine go_aload_n (pc := 32) (j := 0) (i := 0) dX3_gift_32 rfl rfl ?_
        refine go_getI (pc := 33) (n := self) (ci := 3) (k := 96) fa_X3_569_3 t_self rfl dX3_gift_33 ?_
        refine go_bipush (pc := 36) (v := 8) dX3_gift_36 (by decide) ?_
        refine go_icmp_ne (pc := 38) (tgt := 43) dX3_gift_38 (by decide) (fun h4 => ?_) (fun h4 => ?_)
        · refine go_iconst (pc := 41) (v := (-1)) dX3_gift_41 (by decide) ?_
          exact go_ireturn (pc := 42) rfl dX3_gift_42
        · refine go_aload_n (pc := 43) (j := 0) (i := 0) dX3_gift_43 rfl rfl ?_
          refine go_getR (pc := 44) (n := self) (ci := 3) (k := 93) (t := 13) fa_X3_261_3 t_self rfl dX3_gift_44 fun r1 t_r1 => ?_
          refine go_aload_n (pc := 47) (j := 0) (i := 0) dX3_gift_47 rfl rfl ?_
          refine go_getI (pc := 48) (n := self) (ci := 3) (k := 96) fa_X3_569_3 t_self rfl dX3_gift_48 ?_
          refine go_iload_n (pc := 51) (j := 1) (i := 1) dX3_gift_51 rfl rfl ?_
          refine go_oB fun n1 e_n1 => ?_
          have t_n1 := t_r1 n1 e_n1
          subst e_n1
          refine go_iast (pc := 52) t_n1 dX3_gift_52 fun u4 => ?_
          refine go_aload_n (pc := 53) (j := 0) (i := 0) dX3_gift_53 rfl rfl ?_
          refine go_getR (pc := 54) (n := self) (ci := 3) (k := 94) (t := 13) fa_X3_264_3 t_self rfl dX3_gift_54 fun r2 t_r2 => ?_
          refine go_aload_n (pc := 57) (j := 0) (i := 0) dX3_gift_57 rfl rfl ?_
          refine go_getI (pc := 58) (n := self) (ci := 3) (k := 96) fa_X3_569_3 t_self rfl dX3_gift_58 ?_
          refine go_iload_n (pc := 61) (j := 2) (i := 2) dX3_gift_61 rfl rfl ?_
          refine go_oB fun n2 e_n2 => ?_
          have t_n2 := t_r2 n2 e_n2
          subst e_n2
          refine go_iast (pc := 62) t_n2 dX3_gift_62 fun u5 => ?_
          refine go_aload_n (pc := 63) (j := 0) (i := 0) dX3_gift_63 rfl rfl ?_
          refine go_getR (pc := 64) (n := self) (ci := 3) (k := 95) (t := 13) fa_X3_267_3 t_self rfl dX3_gift_64 fun r3 t_r3 => ?_
          refine go_aload_n (pc := 67) (j := 0) (i := 0) dX3_gift_67 rfl rfl ?_
          refine go_getI (pc := 68) (n := self) (ci := 3) (k := 96) fa_X3_569_3 t_self rfl dX3_gift_68 ?_
          refine go_iload_n (pc := 71) (j := 3) (i := 3) dX3_gift_71 rfl rfl ?_
          refine go_oB fun n3 e_n3 => ?_
          have t_n3 := t_r3 n3 e_n3
          subst e_n3
          refine go_iast (pc := 72) t_n3 dX3_gift_72 fun u6 => ?_
          refine go_aload_n (pc := 73) (j := 0) (i := 0) dX3_gift_73 rfl rfl ?_
          refine go_dupA (pc := 74) dX3_gift_74 ?_
          refine go_getI (pc := 75) (n := self) (ci := 3) (k := 96) fa_X3_569_3 t_self rfl dX3_gift_75 ?_
          refine go_iconst (pc := 78) (v := 1) dX3_gift_78 (by decide) ?_
          refine go_iadd (pc := 79) dX3_gift_79 ?_
          refine go_putI (pc := 80) (n := self) (ci := 3) (k := 96) (v := ((mI u6 self 96) + 1)) pa_X3_569_3 (fun h => by cases h) t_self rfl zKeep_int dX3_gift_80 fun u7 => ?_
          refine go_aload_n (pc := 83) (j := 0) (i := 0) dX3_gift_83 rfl rfl ?_
          refine go_getI (pc := 84) (n := self) (ci := 3) (k := 96) fa_X3_569_3 t_self rfl dX3_gift_84 ?_
          refine go_iconst (pc := 87) (v := 1) dX3_gift_87 (by decide) ?_
          refine go_isub (pc := 88) dX3_gift_88 ?_
          exact go_ireturn (pc := 89) rfl dX3_gift_89

