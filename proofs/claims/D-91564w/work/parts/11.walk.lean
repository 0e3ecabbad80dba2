set_option maxRecDepth 100000
def f_X0_begun (p0 : Int32) (p1 : Int32) (u : zM) : Option (Int32 × zM) := gz p1 (some ((((p0 + p1) - 1) / p1), u))
set_option maxHeartbeats 4000000 in
theorem ct_X0_begun (p0 : Int32) (p1 : Int32) : zMet yX0_begun cX0_begun 2 (some .int) 1 0 rvI (obT) [.int p0, .int p1] (f_X0_begun p0 p1) := by
  refine zMet_of (A := [(0, .int p0), (1, .int p1)]) (B := []) (ini := false) RX0 rfl (by decide +kernel) (fun h => by cases h) (by simp [lg_sl, Value.category]) (by simp [lv_args, Value.category]) rfl (by simp [lv_args, Value.category]) fun u => ?_
  unfold f_X0_begun
  refine go_iload_n (pc := 0) (j := 0) (i := 0) dX0_begun_0 rfl rfl ?_
  refine go_iload_n (pc := 1) (j := 1) (i := 1) dX0_begun_1 rfl rfl ?_
  refine go_iadd (pc := 2) dX0_begun_2 ?_
  refine go_iconst (pc := 3) (v := 1) dX0_begun_3 (by decide) ?_
  refine go_isub (pc := 4) dX0_begun_4 ?_
  refine go_iload_n (pc := 5) (j := 1) (i := 1) dX0_begun_5 rfl rfl ?_
  refine go_gz fun h1 => ?_
  refine go_idiv (pc := 6) dX0_begun_6 h1 ?_
  exact go_ireturn (pc := 7) rfl dX0_begun_7

def f_X2_judges_L5 (x0 : Nat) (x1 : Int32) (x2 : Int32) (k58 : Int32 → zM → Option (Unit × zM)) : Nat → Int32 → Int32 → zM → Option (Unit × zM)
  | 0, _, _, _ => none
  | n + 1, x3, x4, u => if (mI u x0 6) ≤ x4 then (k58 x3 u) else (lt (mR u x0 4) fun r1 => oB r1 fun n1 => ix x4 (mN u n1) (lt (fun (z1 : Int32) (u1 : zM) => f_X2_judges_L5 x0 x1 x2 k58 n z1 (x4 + 1) u1) fun j1 => if (mI u n1 (xN x4)) ≤ 0 then (j1 x3 u) else (lt (mR u x0 4) fun r2 => oB r2 fun n2 => ix x4 (mN u n2) (lt (mR u x0 1) fun r3 => oB r3 fun n3 => ix x4 (mN u n3) (lt (mR u n3 (xN x4)) fun r4 => oB r4 fun n4 => lt (mR u n4 15) fun r5 => oB r5 fun n5 => bd (f_X0_begun (mI u n2 (xN x4)) (mI u n5 2) u) fun v1 u2 => j1 (if x3 < v1 then v1 else x3) u2)))))
section
variable {c0 s0 : Nat} {tbv : List ExceptionTableEntry}
set_option maxHeartbeats 4000000 in
theorem g_X2_judges_L5 (x0 : Nat) (x1 : Int32) (x2 : Int32) (k58 : Int32 → zM → Option (Unit × zM)) (t_x0 : kd x0 = 2) (hk58 : ∀ (x3 : Int32) (u : zM), Go RX2 cX2_judges 5 (none) false 2 40 [] (obT) (zQ rvV) c0 s0 58 [(0, .ref x0), (1, .int x1), (2, .int x2), (3, .int x3)] [] [] u (k58 x3 u)) : ∀ (n : Nat) (x3 : Int32) (x4 : Int32) (u : zM), Go RX2 cX2_judges 5 (none) false 2 40 [] (obT) (zQ rvV) c0 s0 5 [(0, .ref x0), (1, .int x1), (2, .int x2), (3, .int x3), (4, .int x4)] [] [] u (f_X2_judges_L5 x0 x1 x2 k58 n x3 x4 u) := by
  intro n
  induction n with
  | zero => intros; exact go_none
  | succ n ih =>
    intro x3 x4 u
    unfold f_X2_judges_L5
    refine go_iload (pc := 5) (i := 4) dX2_judges_5 rfl ?_
    refine go_aload_n (pc := 7) (j := 0) (i := 0) dX2_judges_7 rfl rfl ?_
    refine go_getI (pc := 8) (n := x0) (ci := 2) (k := 6) fa_X2_37_2 t_x0 rfl dX2_judges_8 ?_
    refine go_icmp_ge (pc := 11) (tgt := 58) dX2_judges_11 (by decide) (fun h1 => ?_) (fun h1 => ?_)
    · exact go_weak (A' := [(0, .ref x0), (1, .int x1), (2, .int x2), (3, .int x3)]) (B' := []) ⟨rfl, rfl, rfl, rfl, trivial⟩ rfl (fun q h => by cases h) (hk58 x3 u)
    · refine go_aload_n (pc := 14) (j := 0) (i := 0) dX2_judges_14 rfl rfl ?_
      refine go_getR (pc := 15) (n := x0) (ci := 2) (k := 4) (t := 13) fa_X2_34_2 t_x0 rfl dX2_judges_15 fun r1 t_r1 => ?_
      refine go_iload (pc := 18) (i := 4) dX2_judges_18 rfl ?_
      refine go_oB fun n1 e_n1 => ?_
      have t_n1 := t_r1 n1 e_n1
      subst e_n1
      refine go_iald (pc := 20) t_n1 dX2_judges_20 ?_
      refine go_join1 (pcx := 52) (α1 := Int32) (fun z1 => [(0, .ref x0), (1, .int x1), (2, .int x2), (3, .int z1), (4, .int x4)]) (fun z1 => []) (fun z1 => []) (fun z1 => True) (fun z1 u1 _ => ?_) (fun j1 hj1 => ?_)
      · refine go_iinc (pc := 52) (i := 4) (w := 1) (A' := [(0, .ref x0), (1, .int x1), (2, .int x2), (3, .int z1), (4, .int (x4 + 1))]) rfl (by decide) (by decide) rfl rfl rfl dX2_judges_52 ?_
        refine go_goto (pc := 55) (tgt := 5) dX2_judges_55 (by decide) ?_
        exact go_weak (A' := [(0, .ref x0), (1, .int x1), (2, .int x2), (3, .int z1), (4, .int (x4 + 1))]) (B' := []) ⟨rfl, rfl, rfl, rfl, rfl, trivial⟩ rfl (fun q h => by cases h) (ih z1 (x4 + 1) u1)
      · refine go_if_le (pc := 21) (tgt := 52) dX2_judges_21 (by decide) (fun h2 => ?_) (fun h2 => ?_)
        · exact go_weak (A' := [(0, .ref x0), (1, .int x1), (2, .int x2), (3, .int x3), (4, .int x4)]) (B' := []) ⟨rfl, rfl, rfl, rfl, rfl, trivial⟩ rfl (fun q h => by cases h) (hj1 x3 u trivial)
        · refine go_iload_n (pc := 24) (j := 3) (i := 3) dX2_judges_24 rfl rfl ?_
          refine go_aload_n (pc := 25) (j := 0) (i := 0) dX2_judges_25 rfl rfl ?_
          refine go_getR (pc := 26) (n := x0) (ci := 2) (k := 4) (t := 13) fa_X2_34_2 t_x0 rfl dX2_judges_26 fun r2 t_r2 => ?_
          refine go_iload (pc := 29) (i := 4) dX2_judges_29 rfl ?_
          refine go_oB fun n2 e_n2 => ?_
          have t_n2 := t_r2 n2 e_n2
          subst e_n2
          refine go_iald (pc := 31) t_n2 dX2_judges_31 ?_
          refine go_aload_n (pc := 32) (j := 0) (i := 0) dX2_judges_32 rfl rfl ?_
          refine go_getR (pc := 33) (n := x0) (ci := 2) (k := 1) (t := 18) fa_X2_23_2 t_x0 rfl dX2_judges_33 fun r3 t_r3 => ?_
          refine go_iload (pc := 36) (i := 4) dX2_judges_36 rfl ?_
          refine go_oB fun n3 e_n3 => ?_
          have t_n3 := t_r3 n3 e_n3
          subst e_n3
          refine go_aald (pc := 38) (n := n3) (ci := 18) (t := 5) (by decide) (by decide) t_n3 rfl dX2_judges_38 fun r4 t_r4 => ?_
          refine go_oB fun n4 e_n4 => ?_
          have t_n4 := t_r4 n4 e_n4
          subst e_n4
          refine go_getR (pc := 39) (n := n4) (ci := 5) (k := 15) (t := 6) fa_X2_82_5 t_n4 rfl dX2_judges_39 fun r5 t_r5 => ?_
          refine go_oB fun n5 e_n5 => ?_
          have t_n5 := t_r5 n5 e_n5
          subst e_n5
          refine go_getI (pc := 42) (n := n5) (ci := 6) (k := 2) fa_X2_86_6 t_n5 rfl dX2_judges_42 ?_
          refine go_callSNI (pc := 45) (ct_X0_begun (mI u n2 (xN x4)) (mI u n5 2)) lk_X2_91 rfl ⟨by decide, by decide⟩ (Nat.le_of_ble_eq_true rfl) dX2_judges_45 rfl fun v1 u2 => ?_
          refine go_mmaxI (pc := 48) dX2_judges_48 q1119 q584 q102 q585 (by decide) (Nat.le_of_ble_eq_true rfl) ?_
          refine go_istore_n (pc := 51) (j := 3) (i := 3) (A' := [(0, .ref x0), (1, .int x1), (2, .int x2), (3, .int (if x3 < v1 then v1 else x3)), (4, .int x4)]) rfl (by decide) rfl rfl rfl dX2_judges_51 ?_
          exact go_weak (A' := [(0, .ref x0), (1, .int x1), (2, .int x2), (3, .int (if x3 < v1 then v1 else x3)), (4, .int x4)]) (B' := []) ⟨rfl, rfl, rfl, rfl, rfl, trivial⟩ rfl (fun q h => by cases h) (hj1 (if x3 < v1 then v1 else x3) u2 trivial)
end
def f_X2_judges_L117 (x0 : Nat) : Nat → Int32 → zM → Option (Unit × zM)
  | 0, _, _ => none
  | n + 1, x4, u => if (mI u x0 5) ≤ x4 then (some ((), u)) else (lt (mR u x0 3) fun r6 => lt (mR u x0 2) fun r7 => oB r7 fun n6 => ix x4 (mN u n6) (oB r6 fun n7 => ix x4 (mN u n7) (lt (sI u n7 (xN x4) (mI u n6 (xN x4))) fun u8 => f_X2_judges_L117 x0 n (x4 + 1) u8)))
section
variable {c0 s0 : Nat} {tbv : List ExceptionTableEntry}
set_option maxHeartbeats 4000000 in
theorem g_X2_judges_L117 (x0 : Nat) (t_x0 : kd x0 = 2) : ∀ (n : Nat) (x4 : Int32) (u : zM), Go RX2 cX2_judges 5 (none) false 2 40 [] (obT) (zQ rvV) c0 s0 117 [(0, .ref x0), (4, .int x4)] [] [] u (f_X2_judges_L117 x0 n x4 u) := by
  intro n
  induction n with
  | zero => intros; exact go_none
  | succ n ih =>
    intro x4 u
    unfold f_X2_judges_L117
    refine go_iload (pc := 117) (i := 4) dX2_judges_117 rfl ?_
    refine go_aload_n (pc := 119) (j := 0) (i := 0) dX2_judges_119 rfl rfl ?_
    refine go_getI (pc := 120) (n := x0) (ci := 2) (k := 5) fa_X2_41_2 t_x0 rfl dX2_judges_120 ?_
    refine go_icmp_ge (pc := 123) (tgt := 146) dX2_judges_123 (by decide) (fun h4 => ?_) (fun h4 => ?_)
    · exact go_vreturn (pc := 146) rfl dX2_judges_146
    · refine go_aload_n (pc := 126) (j := 0) (i := 0) dX2_judges_126 rfl rfl ?_
      refine go_getR (pc := 127) (n := x0) (ci := 2) (k := 3) (t := 13) fa_X2_31_2 t_x0 rfl dX2_judges_127 fun r6 t_r6 => ?_
      refine go_iload (pc := 130) (i := 4) dX2_judges_130 rfl ?_
      refine go_aload_n (pc := 132) (j := 0) (i := 0) dX2_judges_132 rfl rfl ?_
      refine go_getR (pc := 133) (n := x0) (ci := 2) (k := 2) (t := 13) fa_X2_27_2 t_x0 rfl dX2_judges_133 fun r7 t_r7 => ?_
      refine go_iload (pc := 136) (i := 4) dX2_judges_136 rfl ?_
      refine go_oB fun n6 e_n6 => ?_
      have t_n6 := t_r7 n6 e_n6
      subst e_n6
      refine go_iald (pc := 138) t_n6 dX2_judges_138 ?_
      refine go_oB fun n7 e_n7 => ?_
      have t_n7 := t_r6 n7 e_n7
      subst e_n7
      refine go_iast (pc := 139) t_n7 dX2_judges_139 fun u8 => ?_
      refine go_iinc (pc := 140) (i := 4) (w := 1) (A' := [(0, .ref x0), (4, .int (x4 + 1))]) rfl (by decide) (by decide) rfl rfl rfl dX2_judges_140 ?_
      refine go_goto (pc := 143) (tgt := 117) dX2_judges_143 (by decide) ?_
      exact go_weak (A' := [(0, .ref x0), (4, .int (x4 + 1))]) (B' := []) ⟨rfl, rfl, trivial⟩ rfl (fun q h => by cases h) (ih (x4 + 1) u8)
end
def f_X2_judges (self : Nat) (p0 : Int32) (p1 : Int32) (u : zM) : Option (Unit × zM) := f_X2_judges_L5 self p0 p1 (fun z2 u3 => if p0 < (mI u3 self 7) then (some ((), u3)) else (lt (fun (u4 : zM) => lt (sI u4 self 7 p0) fun u5 => lt (sI u5 self 8 p1) fun u6 => lt (sI u6 self 9 z2) fun u7 => f_X2_judges_L117 self zFu 0 u7) fun j2 => if p0 = (mI u3 self 7) then (if (mI u3 self 8) < p1 then (some ((), u3)) else (if p1 = (mI u3 self 8) then (if z2 < (mI u3 self 9) then (j2 u3) else (some ((), u3))) else (j2 u3))) else (j2 u3))) zFu 0 0 u
set_option maxHeartbeats 4000000 in
theorem ct_X2_judges (self : Nat) (p0 : Int32) (p1 : Int32) (t_self : kd self = 2) : zMet yX2_judges cX2_judges 5 (none) 2 40 rvV (obT) [.ref self, .int p0, .int p1] (f_X2_judges self p0 p1) := by
  refine zMet_of (A := [(0, .ref self), (1, .int p0), (2, .int p1)]) (B := []) (ini := false) RX2 rfl (by decide +kernel) (fun h => by cases h) (by simp [lg_sl, Value.category]) (by simp [lv_args, Value.category]) rfl (by simp [lv_args, Value.category]) fun u => ?_
  unfold f_X2_judges
  refine go_iconst (pc := 0) (v := 0) dX2_judges_0 (by decide) ?_
  refine go_istore_n (pc := 1) (j := 3) (i := 3) (A' := [(0, .ref self), (1, .int p0), (2, .int p1), (3, .int 0)]) rfl (by decide) rfl rfl rfl dX2_judges_1 ?_
  refine go_iconst (pc := 2) (v := 0) dX2_judges_2 (by decide) ?_
  refine go_istore (pc := 3) (i := 4) (A' := [(0, .ref self), (1, .int p0), (2, .int p1), (3, .int 0), (4, .int 0)]) (by decide) rfl rfl rfl dX2_judges_3 ?_
  refine go_weak (A' := [(0, .ref self), (1, .int p0), (2, .int p1), (3, .int 0), (4, .int 0)]) (B' := []) ⟨rfl, rfl, rfl, rfl, rfl, trivial⟩ rfl (fun q h => by cases h) (g_X2_judges_L5 self p0 p1 _ t_self ?_ zFu 0 0 u)
  · intro z2 u3
    refine go_iload_n (pc := 58) (j := 1) (i := 1) dX2_judges_58 rfl rfl ?_
    refine go_aload_n (pc := 59) (j := 0) (i := 0) dX2_judges_59 rfl rfl ?_
    refine go_getI (pc := 60) (n := self) (ci := 2) (k := 7) fa_X2_51_2 t_self rfl dX2_judges_60 ?_
    refine go_icmp_lt (pc := 63) (tgt := 98) dX2_judges_63 (by decide) (fun h3 => ?_) (fun h3 => ?_)
    · exact go_vreturn (pc := 98) rfl dX2_judges_98
    · refine go_iload_n (pc := 66) (j := 1) (i := 1) dX2_judges_66 rfl rfl ?_
      refine go_aload_n (pc := 67) (j := 0) (i := 0) dX2_judges_67 rfl rfl ?_
      refine go_getI (pc := 68) (n := self) (ci := 2) (k := 7) fa_X2_51_2 t_self rfl dX2_judges_68 ?_
      refine go_join0 (pcx := 99) ([(0, .ref self), (1, .int p0), (2, .int p1), (3, .int z2)]) ([]) ([]) (True) (fun u4 _ => ?_) (fun j2 hj2 => ?_)
      · refine go_aload_n (pc := 99) (j := 0) (i := 0) dX2_judges_99 rfl rfl ?_
        refine go_iload_n (pc := 100) (j := 1) (i := 1) dX2_judges_100 rfl rfl ?_
        refine go_putI (pc := 101) (n := self) (ci := 2) (k := 7) (v := p0) pa_X2_51_2 (fun h => by cases h) t_self rfl zKeep_int dX2_judges_101 fun u5 => ?_
        refine go_aload_n (pc := 104) (j := 0) (i := 0) dX2_judges_104 rfl rfl ?_
        refine go_iload_n (pc := 105) (j := 2) (i := 2) dX2_judges_105 rfl rfl ?_
        refine go_putI (pc := 106) (n := self) (ci := 2) (k := 8) (v := p1) pa_X2_100_2 (fun h => by cases h) t_self rfl zKeep_int dX2_judges_106 fun u6 => ?_
        refine go_aload_n (pc := 109) (j := 0) (i := 0) dX2_judges_109 rfl rfl ?_
        refine go_iload_n (pc := 110) (j := 3) (i := 3) dX2_judges_110 rfl rfl ?_
        refine go_putI (pc := 111) (n := self) (ci := 2) (k := 9) (v := z2) pa_X2_103_2 (fun h => by cases h) t_self rfl zKeep_int dX2_judges_111 fun u7 => ?_
        refine go_iconst (pc := 114) (v := 0) dX2_judges_114 (by decide) ?_
        refine go_istore (pc := 115) (i := 4) (A' := [(0, .ref self), (1, .int p0), (2, .int p1), (3, .int z2), (4, .int 0)]) (by decide) rfl rfl rfl dX2_judges_115 ?_
        exact go_weak (A' := [(0, .ref self), (4, .int 0)]) (B' := []) ⟨rfl, rfl, trivial⟩ rfl (fun q h => by cases h) (g_X2_judges_L117 self t_self zFu 0 u7)
      · refine go_icmp_ne (pc := 71) (tgt := 99) dX2_judges_71 (by decide) (fun h5 => ?_) (fun h5 => ?_)
        · refine go_iload_n (pc := 74) (j := 2) (i := 2) dX2_judges_74 rfl rfl ?_
          refine go_aload_n (pc := 75) (j := 0) (i := 0) dX2_judges_75 rfl rfl ?_
          refine go_getI (pc := 76) (n := self) (ci := 2) (k := 8) fa_X2_100_2 t_self rfl dX2_judges_76 ?_
          refine go_icmp_gt (pc := 79) (tgt := 98) dX2_judges_79 (by decide) (fun h6 => ?_) (fun h6 => ?_)
          · exact go_vreturn (pc := 98) rfl dX2_judges_98
          · refine go_iload_n (pc := 82) (j := 2) (i := 2) dX2_judges_82 rfl rfl ?_
            refine go_aload_n (pc := 83) (j := 0) (i := 0) dX2_judges_83 rfl rfl ?_
            refine go_getI (pc := 84) (n := self) (ci := 2) (k := 8) fa_X2_100_2 t_self rfl dX2_judges_84 ?_
            refine go_icmp_ne (pc := 87) (tgt := 99) dX2_judges_87 (by decide) (fun h7 => ?_) (fun h7 => ?_)
            · refine go_iload_n (pc := 90) (j := 3) (i := 3) dX2_judges_90 rfl rfl ?_
              refine go_aload_n (pc := 91) (j := 0) (i := 0) dX2_judges_91 rfl rfl ?_
              refine go_getI (pc := 92) (n := self) (ci := 2) (k := 9) fa_X2_103_2 t_self rfl dX2_judges_92 ?_
              refine go_icmp_lt (pc := 95) (tgt := 99) dX2_judges_95 (by decide) (fun h8 => ?_) (fun h8 => ?_)
              · exact go_weak (A' := [(0, .ref self), (1, .int p0), (2, .int p1), (3, .int z2)]) (B' := []) ⟨rfl, rfl, rfl, rfl, trivial⟩ rfl (fun q h => by cases h) (hj2 u3 trivial)
              · exact go_vreturn (pc := 98) rfl dX2_judges_98
            · exact go_weak (A' := [(0, .ref self), (1, .int p0), (2, .int p1), (3, .int z2)]) (B' := []) ⟨rfl, rfl, rfl, rfl, trivial⟩ rfl (fun q h => by cases h) (hj2 u3 trivial)
        · exact go_weak (A' := [(0, .ref self), (1, .int p0), (2, .int p1), (3, .int z2)]) (B' := []) ⟨rfl, rfl, rfl, rfl, trivial⟩ rfl (fun q h => by cases h) (hj2 u3 trivial)

def f_X8_even (self : Nat) (u : zM) : Option (Int32 × zM) := some (((mI u self 6) - ((mI u self 6) - (mI u self 6) / 2 * 2)), u)
set_option maxHeartbeats 4000000 in
theorem ct_X8_even (self : Nat) (t_self : kd self = 8) : zMet yX8_even cX8_even 1 (some .int) 1 0 rvI (obT) [.ref self] (f_X8_even self) := by
  refine zMet_of (A := [(0, .ref self)]) (B := []) (ini := false) RX8 rfl (by decide +kernel) (fun h => by cases h) (by simp [lg_sl, Value.category]) (by simp [lv_args, Value.category]) rfl (by simp [lv_args, Value.category]) fun u => ?_
  unfold f_X8_even
  refine go_aload_n (pc := 0) (j := 0) (i := 0) dX8_even_0 rfl rfl ?_
  refine go_getI (pc := 1) (n := self) (ci := 8) (k := 6) fa_X8_30_8 t_self rfl dX8_even_1 ?_
  refine go_aload_n (pc := 4) (j := 0) (i := 0) dX8_even_4 rfl rfl ?_
  refine go_getI (pc := 5) (n := self) (ci := 8) (k := 6) fa_X8_30_8 t_self rfl dX8_even_5 ?_
  refine go_iconst (pc := 8) (v := 2) dX8_even_8 (by decide) ?_
  refine go_irem (pc := 9) dX8_even_9 (by decide) ?_
  refine go_isub (pc := 10) dX8_even_10 ?_
  exact go_ireturn (pc := 11) rfl dX8_even_11

def f_X0_in (p0 : Int32) (p1 : Int32) (p2 : Int32) (u : zM) : Option (Int32 × zM) := if p0 < p1 then (gb 0 (some (0, u))) else (if p2 < p0 then (gb 0 (some (0, u))) else (gb 1 (some (1, u))))
set_option maxHeartbeats 4000000 in
theorem ct_X0_in (p0 : Int32) (p1 : Int32) (p2 : Int32) : zMet yX0_in cX0_in 3 (some .boolean) 1 0 rvI (obT) [.int p0, .int p1, .int p2] (f_X0_in p0 p1 p2) := by
  refine zMet_of (A := [(0, .int p0), (1, .int p1), (2, .int p2)]) (B := []) (ini := false) RX0 rfl (by decide +kernel) (fun h => by cases h) (by simp [lg_sl, Value.category]) (by simp [lv_args, Value.category]) rfl (by simp [lv_args, Value.category]) fun u => ?_
  unfold f_X0_in
  refine go_iload_n (pc := 0) (j := 0) (i := 0) dX0_in_0 rfl rfl ?_
  refine go_iload_n (pc := 1) (j := 1) (i := 1) dX0_in_1 rfl rfl ?_
  refine go_icmp_lt (pc := 2) (tgt := 14) dX0_in_2 (by decide) (fun h1 => ?_) (fun h1 => ?_)
  · refine go_iconst (pc := 14) (v := 0) dX0_in_14 (by decide) ?_
    exact go_zreturn (pc := 15) rfl dX0_in_15
  · refine go_iload_n (pc := 5) (j := 0) (i := 0) dX0_in_5 rfl rfl ?_
    refine go_iload_n (pc := 6) (j := 2) (i := 2) dX0_in_6 rfl rfl ?_
    refine go_icmp_gt (pc := 7) (tgt := 14) dX0_in_7 (by decide) (fun h2 => ?_) (fun h2 => ?_)
    · refine go_iconst (pc := 14) (v := 0) dX0_in_14 (by decide) ?_
      exact go_zreturn (pc := 15) rfl dX0_in_15
    · refine go_iconst (pc := 10) (v := 1) dX0_in_10 (by decide) ?_
      refine go_goto (pc := 11) (tgt := 15) dX0_in_11 (by decide) ?_
      exact go_zreturn (pc := 15) rfl dX0_in_15

def f_X0_farOf (self : Nat) (p0 : Nat) (p1 : Nat) (u : zM) : Option (Int32 × zM) := lt (mR u self 8) fun r1 => oB r1 fun n1 => ix ((8 * (mI u p0 0)) + (mI u p1 0)) (mN u n1) (some ((mI u n1 (xN ((8 * (mI u p0 0)) + (mI u p1 0)))), u))
set_option maxHeartbeats 4000000 in
theorem ct_X0_farOf (self : Nat) (p0 : Nat) (p1 : Nat) (t_self : kd self = 0) (t_p0 : kd p0 = 4) (t_p1 : kd p1 = 4) : zMet yX0_farOf cX0_farOf 3 (some .int) 1 0 rvI (obT) [.ref self, .ref p0, .ref p1] (f_X0_farOf self p0 p1) := by
  refine zMet_of (A := [(0, .ref self), (1, .ref p0), (2, .ref p1)]) (B := []) (ini := false) RX0 rfl (by decide +kernel) (fun h => by cases h) (by simp [lg_sl, Value.category]) (by simp [lv_args, Value.category]) rfl (by simp [lv_args, Value.category]) fun u => ?_
  unfold f_X0_farOf
  refine go_aload_n (pc := 0) (j := 0) (i := 0) dX0_farOf_0 rfl rfl ?_
  refine go_getR (pc := 1) (n := self) (ci := 0) (k := 8) (t := 13) fa_X0_62_0 t_self rfl dX0_farOf_1 fun r1 t_r1 => ?_
  refine go_bipush (pc := 4) (v := 8) dX0_farOf_4 (by decide) ?_
  refine go_aload_n (pc := 6) (j := 1) (i := 1) dX0_farOf_6 rfl rfl ?_
  refine go_getI (pc := 7) (n := p0) (ci := 4) (k := 0) fa_X0_144_4 t_p0 rfl dX0_farOf_7 ?_
  refine go_imul (pc := 10) dX0_farOf_10 ?_
  refine go_aload_n (pc := 11) (j := 2) (i := 2) dX0_farOf_11 rfl rfl ?_
  refine go_getI (pc := 12) (n := p1) (ci := 4) (k := 0) fa_X0_144_4 t_p1 rfl dX0_farOf_12 ?_
  refine go_iadd (pc := 15) dX0_farOf_15 ?_
  refine go_oB fun n1 e_n1 => ?_
  have t_n1 := t_r1 n1 e_n1
  subst e_n1
  refine go_iald (pc := 16) t_n1 dX0_farOf_16 ?_
  exact go_ireturn (pc := 17) rfl dX0_farOf_17

def f_X0_seasonOf (p0 : Int32) (u : zM) : Option (Int32 × zM) := some (((p0 / 13) - (p0 / 13) / 4 * 4), u)
set_option maxHeartbeats 4000000 in
theorem ct_X0_seasonOf (p0 : Int32) : zMet yX0_seasonOf cX0_seasonOf 1 (some .int) 1 0 rvI (obT) [.int p0] (f_X0_seasonOf p0) := by
  refine zMet_of (A := [(0, .int p0)]) (B := []) (ini := false) RX0 rfl (by decide +kernel) (fun h => by cases h) (by simp [lg_sl, Value.category]) (by simp [lv_args, Value.category]) rfl (by simp [lv_args, Value.category]) fun u => ?_
  unfold f_X0_seasonOf
  refine go_iload_n (pc := 0) (j := 0) (i := 0) dX0_seasonOf_0 rfl rfl ?_
  refine go_bipush (pc := 1) (v := 13) dX0_seasonOf_1 (by decide) ?_
  refine go_idiv (pc := 3) dX0_seasonOf_3 (by decide) ?_
  refine go_iconst (pc := 4) (v := 4) dX0_seasonOf_4 (by decide) ?_
  refine go_irem (pc := 5) dX0_seasonOf_5 (by decide) ?_
  exact go_ireturn (pc := 6) rfl dX0_seasonOf_6

def f_X0_clears_L2 (x0 : Nat) (x1 : Int32) (k24 : zM → Option (Unit × zM)) : Nat → Int32 → zM → Option (Unit × zM)
  | 0, _, _ => none
  | n + 1, x2, u => lt (mR u x0 9) fun r1 => oB r1 fun n1 => if (Int32.ofNat (mN u n1)) ≤ x2 then (k24 u) else (lt (mR u x0 9) fun r2 => oB r2 fun n2 => ix x2 (mN u n2) (lt (sI u n2 (xN x2) 0) fun u1 => f_X0_clears_L2 x0 x1 k24 n (x2 + 1) u1))
section
variable {c0 s0 : Nat} {tbv : List ExceptionTableEntry}
set_option maxHeartbeats 4000000 in
theorem g_X0_clears_L2 (x0 : Nat) (x1 : Int32) (k24 : zM → Option (Unit × zM)) (t_x0 : kd x0 = 0) (hk24 : ∀ (u : zM), Go RX0 cX0_clears 3 (none) false 2 20 [] (obT) (zQ rvV) c0 s0 24 [(0, .ref x0), (1, .int x1)] [] [] u (k24 u)) : ∀ (n : Nat) (x2 : Int32) (u : zM), Go RX0 cX0_clears 3 (none) false 2 20 [] (obT) (zQ rvV) c0 s0 2 [(0, .ref x0), (1, .int x1), (2, .int x2)] [] [] u (f_X0_clears_L2 x0 x1 k24 n x2 u) := by
  intro n
  induction n with
  | zero => intros; exact go_none
  | succ n ih =>
    intro x2 u
    unfold f_X0_clears_L2
    refine go_iload_n (pc := 2) (j := 2) (i := 2) dX0_clears_2 rfl rfl ?_
    refine go_aload_n (pc := 3) (j := 0) (i := 0) dX0_clears_3 rfl rfl ?_
    refine go_getR (pc := 4) (n := x0) (ci := 0) (k := 9) (t := 13) fa_X0_65_0 t_x0 rfl dX0_clears_4 fun r1 t_r1 => ?_
    refine go_oB fun n1 e_n1 => ?_
    have t_n1 := t_r1 n1 e_n1
    subst e_n1
    refine go_alen (pc := 7) (by decide) (by decide) t_n1 dX0_clears_7 ?_
    refine go_icmp_ge (pc := 8) (tgt := 24) dX0_clears_8 (by decide) (fun h1 => ?_) (fun h1 => ?_)
    · exact go_weak (A' := [(0, .ref x0), (1, .int x1)]) (B' := []) ⟨rfl, rfl, trivial⟩ rfl (fun q h => by cases h) (hk24 u)
    · refine go_aload_n (pc := 11) (j := 0) (i := 0) dX0_clears_11 rfl rfl ?_
      refine go_getR (pc := 12) (n := x0) (ci := 0) (k := 9) (t := 13) fa_X0_65_0 t_x0 rfl dX0_clears_12 fun r2 t_r2 => ?_
      refine go_iload_n (pc := 15) (j := 2) (i := 2) dX0_clears_15 rfl rfl ?_
      refine go_iconst (pc := 16) (v := 0) dX0_clears_16 (by decide) ?_
      refine go_oB fun n2 e_n2 => ?_
      have t_n2 := t_r2 n2 e_n2
      subst e_n2
      refine go_iast (pc := 17) t_n2 dX0_clears_17 fun u1 => ?_
      refine go_iinc (pc := 18) (i := 2) (w := 1) (A' := [(0, .ref x0), (1, .int x1), (2, .int (x2 + 1))]) rfl (by decide) (by decide) rfl rfl rfl dX0_clears_18 ?_
      refine go_goto (pc := 21) (tgt := 2) dX0_clears_21 (by decide) ?_
      exact go_weak (A' := [(0, .ref x0), (1, .int x1), (2, .int (x2 + 1))]) (B' := []) ⟨rfl, rfl, rfl, trivial⟩ rfl (fun q h => by cases h) (ih (x2 + 1) u1)
end
def f_X0_clears (self : Nat) (p0 : Int32) (u : zM) : Option (Unit × zM) := f_X0_clears_L2 self p0 (fun u2 => lt (mR u2 self 9) fun r3 => oB r3 fun n3 => ix 0 (mN u2 n3) (lt (sI u2 n3 (xN 0) p0) fun u3 => lt (mR u3 self 9) fun r4 => bd (f_X0_seasonOf p0 u3) fun v1 u4 => oB r4 fun n4 => ix 1 (mN u4 n4) (lt (sI u4 n4 (xN 1) v1) fun u5 => some ((), u5)))) zFu 0 u
set_option maxHeartbeats 4000000 in
theorem ct_X0_clears (self : Nat) (p0 : Int32) (t_self : kd self = 0) : zMet yX0_clears cX0_clears 3 (none) 2 20 rvV (obT) [.ref self, .int p0] (f_X0_clears self p0) := by
  refine zMet_of (A := [(0, .ref self), (1, .int p0)]) (B := []) (ini := false) RX0 rfl (by decide +kernel) (fun h => by cases h) (by simp [lg_sl, Value.category]) (by simp [lv_args, Value.category]) rfl (by simp [lv_args, Value.category]) fun u => ?_
  unfold f_X0_clears
  refine go_iconst (pc := 0) (v := 0) dX0_clears_0 (by decide) ?_
  refine go_istore_n (pc := 1) (j := 2) (i := 2) (A' := [(0, .ref self), (1, .int p0), (2, .int 0)]) rfl (by decide) rfl rfl rfl dX0_clears_1 ?_
  refine go_weak (A' := [(0, .ref self), (1, .int p0), (2, .int 0)]) (B' := []) ⟨rfl, rfl, rfl, trivial⟩ rfl (fun q h => by cases h) (g_X0_clears_L2 self p0 _ t_self ?_ zFu 0 u)
  · intro u2
    refine go_aload_n (pc := 24) (j := 0) (i := 0) dX0_clears_24 rfl rfl ?_
    refine go_getR (pc := 25) (n := self) (ci := 0) (k := 9) (t := 13) fa_X0_65_0 t_self rfl dX0_clears_25 fun r3 t_r3 => ?_
    refine go_iconst (pc := 28) (v := 0) dX0_clears_28 (by decide) ?_
    refine go_iload_n (pc := 29) (j := 1) (i := 1) dX0_clears_29 rfl rfl ?_
    refine go_oB fun n3 e_n3 => ?_
    have t_n3 := t_r3 n3 e_n3
    subst e_n3
    refine go_iast (pc := 30) t_n3 dX0_clears_30 fun u3 => ?_
    refine go_aload_n (pc := 31) (j := 0) (i := 0) dX0_clears_31 rfl rfl ?_
    refine go_getR (pc := 32) (n := self) (ci := 0) (k := 9) (t := 13) fa_X0_65_0 t_self rfl dX0_clears_32 fun r4 t_r4 => ?_
    refine go_iconst (pc := 35) (v := 1) dX0_clears_35 (by decide) ?_
    refine go_iload_n (pc := 36) (j := 1) (i := 1) dX0_clears_36 rfl rfl ?_
    refine go_callSI (pc := 37) (ct_X0_seasonOf p0) lk_X0_366 rfl ⟨by decide, by decide⟩ (by simp [cat_rf, cat_int, cat_ref, cat_long]) dX0_clears_37 rfl fun v1 u4 => ?_
    refine go_oB fun n4 e_n4 => ?_
    have t_n4 := t_r4 n4 e_n4
    subst e_n4
    refine go_iast (pc := 40) t_n4 dX0_clears_40 fun u5 => ?_
    exact go_vreturn (pc := 41) rfl dX0_clears_41

def f_X0_ofHouse (self : Nat) (p0 : Nat) (u : zM) : Option (Unit × zM) := bd (f_X0_clears self (mI u self 14) u) fun v1 u1 => lt (mR u1 self 9) fun r1 => oB r1 fun n1 => ix 2 (mN u1 n1) (lt (sI u1 n1 (xN 2) (mI u1 p0 2)) fun u2 => lt (mR u2 self 9) fun r2 => oB r2 fun n2 => ix 3 (mN u2 n2) (lt (sI u2 n2 (xN 3) (mI u2 p0 4)) fun u3 => lt (mR u3 self 9) fun r3 => oB r3 fun n3 => ix 4 (mN u3 n3) (lt (sI u3 n3 (xN 4) (mI u3 p0 5)) fun u4 => lt (mR u4 self 9) fun r4 => oB r4 fun n4 => ix 5 (mN u4 n4) (lt (sI u4 n4 (xN 5) (mI u4 p0 1)) fun u5 => lt (mR u5 self 9) fun r5 => lt (mR u5 p0 3) fun r6 => oB r6 fun n5 => lt (mR u5 n5 2) fun r7 => bd (f_X0_seasonOf (mI u5 self 14) u5) fun v2 u6 => oB r7 fun n6 => ix v2 (mN u6 n6) (oB r5 fun n7 => ix 10 (mN u6 n7) (lt (sI u6 n7 (xN 10) (mI u6 n6 (xN v2))) fun u7 => some ((), u7)))))))
set_option maxHeartbeats 4000000 in
theorem ct_X0_ofHouse (self : Nat) (p0 : Nat) (t_self : kd self = 0) (t_p0 : kd p0 = 5) : zMet yX0_ofHouse cX0_ofHouse 2 (none) 3 42 rvV (obT) [.ref self, .ref p0] (f_X0_ofHouse self p0) := by
  refine zMet_of (A := [(0, .ref self), (1, .ref p0)]) (B := []) (ini := false) RX0 rfl (by decide +kernel) (fun h => by cases h) (by simp [lg_sl, Value.category]) (by simp [lv_args, Value.category]) rfl (by simp [lv_args, Value.category]) fun u => ?_
  unfold f_X0_ofHouse
  refine go_aload_n (pc := 0) (j := 0) (i := 0) dX0_ofHouse_0 rfl rfl ?_
  refine go_aload_n (pc := 1) (j := 0) (i := 0) dX0_ofHouse_1 rfl rfl ?_
  refine go_getI (pc := 2) (n := self) (ci := 0) (k := 14) fa_X0_151_0 t_self rfl dX0_ofHouse_2 ?_
  refine go_callVV (pc := 5) (ci := 0) (ct_X0_clears self (mI u self 14) t_self) lk_X0_259 rfl rfl rfl (by decide) t_self ⟨by decide, by decide⟩ (Nat.le_of_ble_eq_true rfl) dX0_ofHouse_5 rfl fun v1 u1 => ?_
  refine go_aload_n (pc := 8) (j := 0) (i := 0) dX0_ofHouse_8 rfl rfl ?_
  refine go_getR (pc := 9) (n := self) (ci := 0) (k := 9) (t := 13) fa_X0_65_0 t_self rfl dX0_ofHouse_9 fun r1 t_r1 => ?_
  refine go_iconst (pc := 12) (v := 2) dX0_ofHouse_12 (by decide) ?_
  refine go_aload_n (pc := 13) (j := 1) (i := 1) dX0_ofHouse_13 rfl rfl ?_
  refine go_getI (pc := 14) (n := p0) (ci := 5) (k := 2) fa_X0_374_5 t_p0 rfl dX0_ofHouse_14 ?_
  refine go_oB fun n1 e_n1 => ?_
  have t_n1 := t_r1 n1 e_n1
  subst e_n1
  refine go_iast (pc := 17) t_n1 dX0_ofHouse_17 fun u2 => ?_
  refine go_aload_n (pc := 18) (j := 0) (i := 0) dX0_ofHouse_18 rfl rfl ?_
  refine go_getR (pc := 19) (n := self) (ci := 0) (k := 9) (t := 13) fa_X0_65_0 t_self rfl dX0_ofHouse_19 fun r2 t_r2 => ?_
  refine go_iconst (pc := 22) (v := 3) dX0_ofHouse_22 (by decide) ?_
  refine go_aload_n (pc := 23) (j := 1) (i := 1) dX0_ofHouse_23 rfl rfl ?_
  refine go_getI (pc := 24) (n := p0) (ci := 5) (k := 4) fa_X0_202_5 t_p0 rfl dX0_ofHouse_24 ?_
  refine go_oB fun n2 e_n2 => ?_
  have t_n2 := t_r2 n2 e_n2
  subst e_n2
  refine go_iast (pc := 27) t_n2 dX0_ofHouse_27 fun u3 => ?_
  refine go_aload_n (pc := 28) (j := 0) (i := 0) dX0_ofHouse_28 rfl rfl ?_
  refine go_getR (pc := 29) (n := self) (ci := 0) (k := 9) (t := 13) fa_X0_65_0 t_self rfl dX0_ofHouse_29 fun r3 t_r3 => ?_
  refine go_iconst (pc := 32) (v := 4) dX0_ofHouse_32 (by decide) ?_
  refine go_aload_n (pc := 33) (j := 1) (i := 1) dX0_ofHouse_33 rfl rfl ?_
  refine go_getI (pc := 34) (n := p0) (ci := 5) (k := 5) fa_X0_237_5 t_p0 rfl dX0_ofHouse_34 ?_
  refine go_oB fun n3 e_n3 => ?_
  have t_n3 := t_r3 n3 e_n3
  subst e_n3
  refine go_iast (pc := 37) t_n3 dX0_ofHouse_37 fun u4 => ?_
  refine go_aload_n (pc := 38) (j := 0) (i := 0) dX0_ofHouse_38 rfl rfl ?_
  refine go_getR (pc := 39) (n := self) (ci := 0) (k := 9) (t := 13) fa_X0_65_0 t_self rfl dX0_ofHouse_39 fun r4 t_r4 => ?_
  refine go_iconst (pc := 42) (v := 5) dX0_ofHouse_42 (by decide) ?_
  refine go_aload_n (pc := 43) (j := 1) (i := 1) dX0_ofHouse_43 rfl rfl ?_
  refine go_getI (pc := 44) (n := p0) (ci := 5) (k := 1) fa_X0_377_5 t_p0 rfl dX0_ofHouse_44 ?_
  refine go_oB fun n4 e_n4 => ?_
  have t_n4 := t_r4 n4 e_n4
  subst e_n4
  refine go_iast (pc := 47) t_n4 dX0_ofHouse_47 fun u5 => ?_
  refine go_aload_n (pc := 48) (j := 0) (i := 0) dX0_ofHouse_48 rfl rfl ?_
  refine go_getR (pc := 49) (n := self) (ci := 0) (k := 9) (t := 13) fa_X0_65_0 t_self rfl dX0_ofHouse_49 fun r5 t_r5 => ?_
  refine go_bipush (pc := 52) (v := 10) dX0_ofHouse_52 (by decide) ?_
  refine go_aload_n (pc := 54) (j := 1) (i := 1) dX0_ofHouse_54 rfl rfl ?_
  refine go_getR (pc := 55) (n := p0) (ci := 5) (k := 3) (t := 4) fa_X0_240_5 t_p0 rfl dX0_ofHouse_55 fun r6 t_r6 => ?_
  refine go_oB fun n5 e_n5 => ?_
  have t_n5 := t_r6 n5 e_n5
  subst e_n5
  refine go_getR (pc := 58) (n := n5) (ci := 4) (k := 2) (t := 13) fa_X0_380_4 t_n5 rfl dX0_ofHouse_58 fun r7 t_r7 => ?_
  refine go_aload_n (pc := 61) (j := 0) (i := 0) dX0_ofHouse_61 rfl rfl ?_
  refine go_getI (pc := 62) (n := self) (ci := 0) (k := 14) fa_X0_151_0 t_self rfl dX0_ofHouse_62 ?_
  refine go_callSI (pc := 65) (ct_X0_seasonOf (mI u5 self 14)) lk_X0_366 rfl ⟨by decide, by decide⟩ (by simp [cat_rf, cat_int, cat_ref, cat_long]) dX0_ofHouse_65 rfl fun v2 u6 => ?_
  refine go_oB fun n6 e_n6 => ?_
  have t_n6 := t_r7 n6 e_n6
  subst e_n6
  refine go_iald (pc := 68) t_n6 dX0_ofHouse_68 ?_
  refine go_oB fun n7 e_n7 => ?_
  have t_n7 := t_r5 n7 e_n7
  subst e_n7
  refine go_iast (pc := 69) t_n7 dX0_ofHouse_69 fun u7 => ?_
  exact go_vreturn (pc := 70) rfl dX0_ofHouse_70

def f_X0_inForce_L8 (x0 : Nat) (x1 : Int32) (x2 : Int32) : Nat → Int32 → Int32 → Int32 → zM → Option (Int32 × zM)
  | 0, _, _, _, _ => none
  | n + 1, x3, x4, x5, u => if (mI u x0 20) ≤ x5 then (some (x3, u)) else (lt (mR u x0 6) fun r1 => oB r1 fun n1 => ix x5 (mN u n1) (lt (fun (z1 : Int32) (z2 : Int32) (u1 : zM) => f_X0_inForce_L8 x0 x1 x2 n z1 z2 (x5 + 1) u1) fun j1 => if x2 < (mI u n1 (xN x5)) then (j1 x3 x4 u) else (lt (mR u x0 6) fun r2 => oB r2 fun n2 => ix x5 (mN u n2) (if (mI u n2 (xN x5)) < x4 then (j1 x3 x4 u) else (lt (mR u x0 4) fun r3 => lt (mR u x0 5) fun r4 => oB r4 fun n3 => ix x5 (mN u n3) (oB r3 fun n4 => ix (mI u n3 (xN x5)) (mN u n4) (lt (mR u n4 (xN (mI u n3 (xN x5)))) fun r5 => oB r5 fun n5 => lt (mR u n5 0) fun r6 => oB r6 fun n6 => ix x1 (mN u n6) (lt (mR u n6 (xN x1)) fun r7 => oC r7 (j1 x3 x4 u) fun n7 => lt (mR u x0 5) fun r8 => oB r8 fun n8 => ix x5 (mN u n8) (lt (mR u x0 6) fun r9 => oB r9 fun n9 => ix x5 (mN u n9) (j1 (mI u n8 (xN x5)) (mI u n9 (xN x5)) u))))))))))
section
variable {c0 s0 : Nat} {tbv : List ExceptionTableEntry}
set_option maxHeartbeats 4000000 in
theorem g_X0_inForce_L8 (x0 : Nat) (x1 : Int32) (x2 : Int32) (t_x0 : kd x0 = 0) : ∀ (n : Nat) (x3 : Int32) (x4 : Int32) (x5 : Int32) (u : zM), Go RX0 cX0_inForce 6 (some .int) false 1 0 [] (obT) (zQ rvI) c0 s0 8 [(0, .ref x0), (1, .int x1), (2, .int x2), (3, .int x3), (4, .int x4), (5, .int x5)] [] [] u (f_X0_inForce_L8 x0 x1 x2 n x3 x4 x5 u) := by
  intro n
  induction n with
  | zero => intros; exact go_none
  | succ n ih =>
    intro x3 x4 x5 u
    unfold f_X0_inForce_L8
    refine go_iload (pc := 8) (i := 5) dX0_inForce_8 rfl ?_
    refine go_aload_n (pc := 10) (j := 0) (i := 0) dX0_inForce_10 rfl rfl ?_
    refine go_getI (pc := 11) (n := x0) (ci := 0) (k := 20) fa_X0_356_0 t_x0 rfl dX0_inForce_11 ?_
    refine go_icmp_ge (pc := 14) (tgt := 86) dX0_inForce_14 (by decide) (fun h1 => ?_) (fun h1 => ?_)
    · refine go_iload_n (pc := 86) (j := 3) (i := 3) dX0_inForce_86 rfl rfl ?_
      exact go_ireturn (pc := 87) rfl dX0_inForce_87
    · refine go_aload_n (pc := 17) (j := 0) (i := 0) dX0_inForce_17 rfl rfl ?_
      refine go_getR (pc := 18) (n := x0) (ci := 0) (k := 6) (t := 13) fa_X0_56_0 t_x0 rfl dX0_inForce_18 fun r1 t_r1 => ?_
      refine go_iload (pc := 21) (i := 5) dX0_inForce_21 rfl ?_
      refine go_oB fun n1 e_n1 => ?_
      have t_n1 := t_r1 n1 e_n1
      subst e_n1
      refine go_iald (pc := 23) t_n1 dX0_inForce_23 ?_
      refine go_iload_n (pc := 24) (j := 2) (i := 2) dX0_inForce_24 rfl rfl ?_
      refine go_join2 (pcx := 80) (α1 := Int32) (α2 := Int32) (fun z1 z2 => [(0, .ref x0), (1, .int x1), (2, .int x2), (3, .int z1), (4, .int z2), (5, .int x5)]) (fun z1 z2 => []) (fun z1 z2 => []) (fun z1 z2 => True) (fun z1 z2 u1 _ => ?_) (fun j1 hj1 => ?_)
      · refine go_iinc (pc := 80) (i := 5) (w := 1) (A' := [(0, .ref x0), (1, .int x1), (2, .int x2), (3, .int z1), (4, .int z2), (5, .int (x5 + 1))]) rfl (by decide) (by decide) rfl rfl rfl dX0_inForce_80 ?_
        refine go_goto (pc := 83) (tgt := 8) dX0_inForce_83 (by decide) ?_
        exact go_weak (A' := [(0, .ref x0), (1, .int x1), (2, .int x2), (3, .int z1), (4, .int z2), (5, .int (x5 + 1))]) (B' := []) ⟨rfl, rfl, rfl, rfl, rfl, rfl, trivial⟩ rfl (fun q h => by cases h) (ih z1 z2 (x5 + 1) u1)
      · refine go_icmp_gt (pc := 25) (tgt := 80) dX0_inForce_25 (by decide) (fun h2 => ?_) (fun h2 => ?_)
        · exact go_weak (A' := [(0, .ref x0), (1, .int x1), (2, .int x2), (3, .int x3), (4, .int x4), (5, .int x5)]) (B' := []) ⟨rfl, rfl, rfl, rfl, rfl, rfl, trivial⟩ rfl (fun q h => by cases h) (hj1 x3 x4 u trivial)
        · refine go_aload_n (pc := 28) (j := 0) (i := 0) dX0_inForce_28 rfl rfl ?_
          refine go_getR (pc := 29) (n := x0) (ci := 0) (k := 6) (t := 13) fa_X0_56_0 t_x0 rfl dX0_inForce_29 fun r2 t_r2 => ?_
          refine go_iload (pc := 32) (i := 5) dX0_inForce_32 rfl ?_
          refine go_oB fun n2 e_n2 => ?_
          have t_n2 := t_r2 n2 e_n2
          subst e_n2
          refine go_iald (pc := 34) t_n2 dX0_inForce_34 ?_
          refine go_iload (pc := 35) (i := 4) dX0_inForce_35 rfl ?_
          refine go_icmp_lt (pc := 37) (tgt := 80) dX0_inForce_37 (by decide) (fun h3 => ?_) (fun h3 => ?_)
          · exact go_weak (A' := [(0, .ref x0), (1, .int x1), (2, .int x2), (3, .int x3), (4, .int x4), (5, .int x5)]) (B' := []) ⟨rfl, rfl, rfl, rfl, rfl, rfl, trivial⟩ rfl (fun q h => by cases h) (hj1 x3 x4 u trivial)
          · refine go_aload_n (pc := 40) (j := 0) (i := 0) dX0_inForce_40 rfl rfl ?_
            refine go_getR (pc := 41) (n := x0) (ci := 0) (k := 4) (t := 21) fa_X0_48_0 t_x0 rfl dX0_inForce_41 fun r3 t_r3 => ?_
            refine go_aload_n (pc := 44) (j := 0) (i := 0) dX0_inForce_44 rfl rfl ?_
            refine go_getR (pc := 45) (n := x0) (ci := 0) (k := 5) (t := 13) fa_X0_52_0 t_x0 rfl dX0_inForce_45 fun r4 t_r4 => ?_
            refine go_iload (pc := 48) (i := 5) dX0_inForce_48 rfl ?_
            refine go_oB fun n3 e_n3 => ?_
            have t_n3 := t_r4 n3 e_n3
            subst e_n3
            refine go_iald (pc := 50) t_n3 dX0_inForce_50 ?_
            refine go_oB fun n4 e_n4 => ?_
            have t_n4 := t_r3 n4 e_n4
            subst e_n4
            refine go_aald (pc := 51) (n := n4) (ci := 21) (t := 10) (by decide) (by decide) t_n4 rfl dX0_inForce_51 fun r5 t_r5 => ?_
            refine go_oB fun n5 e_n5 => ?_
            have t_n5 := t_r5 n5 e_n5
            subst e_n5
            refine go_getR (pc := 52) (n := n5) (ci := 10) (k := 0) (t := 22) fa_X0_359_10 t_n5 rfl dX0_inForce_52 fun r6 t_r6 => ?_
            refine go_iload_n (pc := 55) (j := 1) (i := 1) dX0_inForce_55 rfl rfl ?_
            refine go_oB fun n6 e_n6 => ?_
            have t_n6 := t_r6 n6 e_n6
            subst e_n6
            refine go_aald (pc := 56) (n := n6) (ci := 22) (t := 9) (by decide) (by decide) t_n6 rfl dX0_inForce_56 fun r7 t_r7 => ?_
            refine go_ifnonnull (pc := 57) (tgt := 63) dX0_inForce_57 (by decide) (fun e_n7 => ?_) (fun n7 e_n7 => ?_)
            · subst e_n7
              refine go_goto (pc := 60) (tgt := 80) dX0_inForce_60 (by decide) ?_
              exact go_weak (A' := [(0, .ref x0), (1, .int x1), (2, .int x2), (3, .int x3), (4, .int x4), (5, .int x5)]) (B' := []) ⟨rfl, rfl, rfl, rfl, rfl, rfl, trivial⟩ rfl (fun q h => by cases h) (hj1 x3 x4 u trivial)
            · have t_n7 := t_r7 n7 e_n7
              subst e_n7
              refine go_aload_n (pc := 63) (j := 0) (i := 0) dX0_inForce_63 rfl rfl ?_
              refine go_getR (pc := 64) (n := x0) (ci := 0) (k := 5) (t := 13) fa_X0_52_0 t_x0 rfl dX0_inForce_64 fun r8 t_r8 => ?_
              refine go_iload (pc := 67) (i := 5) dX0_inForce_67 rfl ?_
              refine go_oB fun n8 e_n8 => ?_
              have t_n8 := t_r8 n8 e_n8
              subst e_n8
              refine go_iald (pc := 69) t_n8 dX0_inForce_69 ?_
              refine go_istore_n (pc := 70) (j := 3) (i := 3) (A' := [(0, .ref x0), (1, .int x1), (2, .int x2), (3, .int (mI u n8 (xN x5))), (4, .int x4), (5, .int x5)]) rfl (by decide) rfl rfl rfl dX0_inForce_70 ?_
              refine go_aload_n (pc := 71) (j := 0) (i := 0) dX0_inForce_71 rfl rfl ?_
              refine go_getR (pc := 72) (n := x0) (ci := 0) (k := 6) (t := 13) fa_X0_56_0 t_x0 rfl dX0_inForce_72 fun r9 t_r9 => ?_
              refine go_iload (pc := 75) (i := 5) dX0_inForce_75 rfl ?_
              refine go_oB fun n9 e_n9 => ?_
              have t_n9 := t_r9 n9 e_n9
              subst e_n9
              refine go_iald (pc := 77) t_n9 dX0_inForce_77 ?_
              refine go_istore (pc := 78) (i := 4) (A' := [(0, .ref x0), (1, .int x1), (2, .int x2), (3, .int (mI u n8 (xN x5))), (4, .int (mI u n9 (xN x5))), (5, .int x5)]) (by decide) rfl rfl rfl dX0_inForce_78 ?_
              exact go_weak (A' := [(0, .ref x0), (1, .int x1), (2, .int x2), (3, .int (mI u n8 (xN x5))), (4, .int (mI u n9 (xN x5))), (5, .int x5)]) (B' := []) ⟨rfl, rfl, rfl, rfl, rfl, rfl, trivial⟩ rfl (fun q h => by cases h) (hj1 (mI u n8 (xN x5)) (mI u n9 (xN x5)) u trivial)
end
def f_X0_inForce (self : Nat) (p0 : Int32) (p1 : Int32) (u : zM) : Option (Int32 × zM) := f_X0_inForce_L8 self p0 p1 zFu (-1) (-1) 0 u
set_option maxHeartbeats 4000000 in
theorem ct_X0_inForce (self : Nat) (p0 : Int32) (p1 : Int32) (t_self : kd self = 0) : zMet yX0_inForce cX0_inForce 6 (some .int) 1 0 rvI (obT) [.ref self, .int p0, .int p1] (f_X0_inForce self p0 p1) := by
  refine zMet_of (A := [(0, .ref self), (1, .int p0), (2, .int p1)]) (B := []) (ini := false) RX0 rfl (by decide +kernel) (fun h => by cases h) (by simp [lg_sl, Value.category]) (by simp [lv_args, Value.category]) rfl (by simp [lv_args, Value.category]) fun u => ?_
  unfold f_X0_inForce
  refine go_iconst (pc := 0) (v := (-1)) dX0_inForce_0 (by decide) ?_
  refine go_istore_n (pc := 1) (j := 3) (i := 3) (A' := [(0, .ref self), (1, .int p0), (2, .int p1), (3, .int (-1))]) rfl (by decide) rfl rfl rfl dX0_inForce_1 ?_
  refine go_iconst (pc := 2) (v := (-1)) dX0_inForce_2 (by decide) ?_
  refine go_istore (pc := 3) (i := 4) (A' := [(0, .ref self), (1, .int p0), (2, .int p1), (3, .int (-1)), (4, .int (-1))]) (by decide) rfl rfl rfl dX0_inForce_3 ?_
  refine go_iconst (pc := 5) (v := 0) dX0_inForce_5 (by decide) ?_
  refine go_istore (pc := 6) (i := 5) (A' := [(0, .ref self), (1, .int p0), (2, .int p1), (3, .int (-1)), (4, .int (-1)), (5, .int 0)]) (by decide) rfl rfl rfl dX0_inForce_6 ?_
  exact go_weak (A' := [(0, .ref self), (1, .int p0), (2, .int p1), (3, .int (-1)), (4, .int (-1)), (5, .int 0)]) (B' := []) ⟨rfl, rfl, rfl, rfl, rfl, rfl, trivial⟩ rfl (fun q h => by cases h) (g_X0_inForce_L8 self p0 p1 t_self zFu (-1) (-1) 0 u)

def f_X0_near (p0 : Int64) (u : zM) : Option (Int32 × zM) := some ((Int64.toInt32 (if (if p0 < 1000000 then p0 else 1000000) < (-1000000) then (-1000000) else (if p0 < 1000000 then p0 else 1000000))), u)
set_option maxHeartbeats 4000000 in
theorem ct_X0_near (p0 : Int64) : zMet yX0_near cX0_near 2 (some .int) 1 40 rvI (obT) [.long p0] (f_X0_near p0) := by
  refine zMet_of (A := []) (B := [(0, p0)]) (ini := false) RX0 rfl (by decide +kernel) (fun h => by cases h) (by simp [lg_sl, Value.category]) (by simp [lv_args, Value.category]) rfl (by simp [lv_args, Value.category]) fun u => ?_
  unfold f_X0_near
  refine go_ldc2 (pc := 0) (v := (-1000000)) dX0_near_0 q664 ?_
  refine go_ldc2 (pc := 3) (v := 1000000) dX0_near_3 q665 ?_
  refine go_lload_n (pc := 6) (j := 0) (i := 0) dX0_near_6 rfl 0 rfl ?_
  refine go_mminL (pc := 7) dX0_near_7 q666 q667 q102 q668 (by decide) (Nat.le_of_ble_eq_true rfl) ?_
  refine go_mmaxL (pc := 10) dX0_near_10 q669 q670 q102 q671 (by decide) (Nat.le_of_ble_eq_true rfl) ?_
  refine go_l2i (pc := 13) dX0_near_13 ?_
  exact go_ireturn (pc := 14) rfl dX0_near_14

def f_X9_joined (p0 : Int32) (p1 : Int32) (p2 : Int32) (u : zM) : Option (Int32 × zM) := if p0 = 38 then (some ((p1 * p2), u)) else (if p0 = 42 then (bd (f_X0_near ((Int32.toInt64 p1) * (Int32.toInt64 p2)) u) fun v1 u1 => some (v1, u1)) else (if p0 = 43 then (bd (f_X0_near ((Int32.toInt64 p1) + (Int32.toInt64 p2)) u) fun v2 u2 => some (v2, u2)) else (if p0 = 45 then (bd (f_X0_near ((Int32.toInt64 p1) - (Int32.toInt64 p2)) u) fun v3 u3 => some (v3, u3)) else (if p0 = 47 then (if p2 = 0 then (some (0, u)) else (gz p2 (some ((p1 / p2), u)))) else (if p0 = 60 then (if p2 ≤ p1 then (some (0, u)) else (some (1, u))) else (if p0 = 61 then (if p1 = p2 then (some (1, u)) else (some (0, u))) else (if p0 = 62 then (if p1 ≤ p2 then (some (0, u)) else (some (1, u))) else (if (p1 + p2) ≤ 0 then (some (0, u)) else (some (1, u))))))))))
set_option maxHeartbeats 4000000 in
theorem ct_X9_joined (p0 : Int32) (p1 : Int32) (p2 : Int32) : zMet yX9_joined cX9_joined 3 (some .int) 2 61 rvI (obT) [.int p0, .int p1, .int p2] (f_X9_joined p0 p1 p2) := by
  refine zMet_of (A := [(0, .int p0), (1, .int p1), (2, .int p2)]) (B := []) (ini := false) RX9 rfl (by decide +kernel) (fun h => by cases h) (by simp [lg_sl, Value.category]) (by simp [lv_args, Value.category]) rfl (by simp [lv_args, Value.category]) fun u => ?_
  unfold f_X9_joined
  refine go_iload_n (pc := 0) (j := 0) (i := 0) dX9_joined_0 rfl rfl ?_
  refine go_if (fun h1 => ?_) (fun h1 => ?_)
  · refine go_tableIn (pc := 1) (tgt := 188) 38 h1 dX9_joined_1 (by decide) (by decide) rfl (by decide) ?_
    refine go_iload_n (pc := 188) (j := 1) (i := 1) dX9_joined_188 rfl rfl ?_
    refine go_iload_n (pc := 189) (j := 2) (i := 2) dX9_joined_189 rfl rfl ?_
    refine go_imul (pc := 190) dX9_joined_190 ?_
    exact go_ireturn (pc := 191) rfl dX9_joined_191
  refine go_if (fun h2 => ?_) (fun h2 => ?_)
  · refine go_tableIn (pc := 1) (tgt := 134) 42 h2 dX9_joined_1 (by decide) (by decide) rfl (by decide) ?_
    refine go_iload_n (pc := 134) (j := 1) (i := 1) dX9_joined_134 rfl rfl ?_
    refine go_i2l (pc := 135) dX9_joined_135 ?_
    refine go_iload_n (pc := 136) (j := 2) (i := 2) dX9_joined_136 rfl rfl ?_
    refine go_i2l (pc := 137) dX9_joined_137 ?_
    refine go_lmul (pc := 138) dX9_joined_138  ?_
    refine go_callSNI (pc := 139) (ct_X0_near ((Int32.toInt64 p1) * (Int32.toInt64 p2))) lk_X9_21 rfl ⟨by decide, by decide⟩ (Nat.le_of_ble_eq_true rfl) dX9_joined_139 rfl fun v1 u1 => ?_
    exact go_ireturn (pc := 142) rfl dX9_joined_142
  refine go_if (fun h3 => ?_) (fun h3 => ?_)
  · refine go_tableIn (pc := 1) (tgt := 116) 43 h3 dX9_joined_1 (by decide) (by decide) rfl (by decide) ?_
    refine go_iload_n (pc := 116) (j := 1) (i := 1) dX9_joined_116 rfl rfl ?_
    refine go_i2l (pc := 117) dX9_joined_117 ?_
    refine go_iload_n (pc := 118) (j := 2) (i := 2) dX9_joined_118 rfl rfl ?_
    refine go_i2l (pc := 119) dX9_joined_119 ?_
    refine go_ladd (pc := 120) dX9_joined_120  ?_
    refine go_callSNI (pc := 121) (ct_X0_near ((Int32.toInt64 p1) + (Int32.toInt64 p2))) lk_X9_21 rfl ⟨by decide, by decide⟩ (Nat.le_of_ble_eq_true rfl) dX9_joined_121 rfl fun v2 u2 => ?_
    exact go_ireturn (pc := 124) rfl dX9_joined_124
  refine go_if (fun h4 => ?_) (fun h4 => ?_)
  · refine go_tableIn (pc := 1) (tgt := 125) 45 h4 dX9_joined_1 (by decide) (by decide) rfl (by decide) ?_
    refine go_iload_n (pc := 125) (j := 1) (i := 1) dX9_joined_125 rfl rfl ?_
    refine go_i2l (pc := 126) dX9_joined_126 ?_
    refine go_iload_n (pc := 127) (j := 2) (i := 2) dX9_joined_127 rfl rfl ?_
    refine go_i2l (pc := 128) dX9_joined_128 ?_
    refine go_lsub (pc := 129) dX9_joined_129  ?_
    refine go_callSNI (pc := 130) (ct_X0_near ((Int32.toInt64 p1) - (Int32.toInt64 p2))) lk_X9_21 rfl ⟨by decide, by decide⟩ (Nat.le_of_ble_eq_true rfl) dX9_joined_130 rfl fun v3 u3 => ?_
    exact go_ireturn (pc := 133) rfl dX9_joined_133
  refine go_if (fun h5 => ?_) (fun h5 => ?_)
  · refine go_tableIn (pc := 1) (tgt := 143) 47 h5 dX9_joined_1 (by decide) (by decide) rfl (by decide) ?_
    refine go_iload_n (pc := 143) (j := 2) (i := 2) dX9_joined_143 rfl rfl ?_
    refine go_if_ne (pc := 144) (tgt := 151) dX9_joined_144 (by decide) (fun h6 => ?_) (fun h6 => ?_)
    · refine go_iconst (pc := 147) (v := 0) dX9_joined_147 (by decide) ?_
      refine go_goto (pc := 148) (tgt := 154) dX9_joined_148 (by decide) ?_
      exact go_ireturn (pc := 154) rfl dX9_joined_154
    · refine go_iload_n (pc := 151) (j := 1) (i := 1) dX9_joined_151 rfl rfl ?_
      refine go_iload_n (pc := 152) (j := 2) (i := 2) dX9_joined_152 rfl rfl ?_
      refine go_gz fun h7 => ?_
      refine go_idiv (pc := 153) dX9_joined_153 h7 ?_
      exact go_ireturn (pc := 154) rfl dX9_joined_154
  refine go_if (fun h8 => ?_) (fun h8 => ?_)
  · refine go_tableIn (pc := 1) (tgt := 155) 60 h8 dX9_joined_1 (by decide) (by decide) rfl (by decide) ?_
    refine go_iload_n (pc := 155) (j := 1) (i := 1) dX9_joined_155 rfl rfl ?_
    refine go_iload_n (pc := 156) (j := 2) (i := 2) dX9_joined_156 rfl rfl ?_
    refine go_icmp_ge (pc := 157) (tgt := 164) dX9_joined_157 (by decide) (fun h9 => ?_) (fun h9 => ?_)
    · refine go_iconst (pc := 164) (v := 0) dX9_joined_164 (by decide) ?_
      exact go_ireturn (pc := 165) rfl dX9_joined_165
    · refine go_iconst (pc := 160) (v := 1) dX9_joined_160 (by decide) ?_
      refine go_goto (pc := 161) (tgt := 165) dX9_joined_161 (by decide) ?_
      exact go_ireturn (pc := 165) rfl dX9_joined_165
  refine go_if (fun h10 => ?_) (fun h10 => ?_)
  · refine go_tableIn (pc := 1) (tgt := 177) 61 h10 dX9_joined_1 (by decide) (by decide) rfl (by decide) ?_
    refine go_iload_n (pc := 177) (j := 1) (i := 1) dX9_joined_177 rfl rfl ?_
    refine go_iload_n (pc := 178) (j := 2) (i := 2) dX9_joined_178 rfl rfl ?_
    refine go_icmp_ne (pc := 179) (tgt := 186) dX9_joined_179 (by decide) (fun h11 => ?_) (fun h11 => ?_)
    · refine go_iconst (pc := 182) (v := 1) dX9_joined_182 (by decide) ?_
      refine go_goto (pc := 183) (tgt := 187) dX9_joined_183 (by decide) ?_
      exact go_ireturn (pc := 187) rfl dX9_joined_187
    · refine go_iconst (pc := 186) (v := 0) dX9_joined_186 (by decide) ?_
      exact go_ireturn (pc := 187) rfl dX9_joined_187
  refine go_if (fun h12 => ?_) (fun h12 => ?_)
  · refine go_tableIn (pc := 1) (tgt := 166) 62 h12 dX9_joined_1 (by decide) (by decide) rfl (by decide) ?_
    refine go_iload_n (pc := 166) (j := 1) (i := 1) dX9_joined_166 rfl rfl ?_
    refine go_iload_n (pc := 167) (j := 2) (i := 2) dX9_joined_167 rfl rfl ?_
    refine go_icmp_le (pc := 168) (tgt := 175) dX9_joined_168 (by decide) (fun h13 => ?_) (fun h13 => ?_)
    · refine go_iconst (pc := 175) (v := 0) dX9_joined_175 (by decide) ?_
      exact go_ireturn (pc := 176) rfl dX9_joined_176
    · refine go_iconst (pc := 171) (v := 1) dX9_joined_171 (by decide) ?_
      refine go_goto (pc := 172) (tgt := 176) dX9_joined_172 (by decide) ?_
      exact go_ireturn (pc := 176) rfl dX9_joined_176
  refine go_tableD (pc := 1) (x := p0) (tgt := 192) dX9_joined_1 (by decide) (fun a b => ?_) ?_
  · rcases (show Int32.toInt p0 = 38 ∨ Int32.toInt p0 = 39 ∨ Int32.toInt p0 = 40 ∨ Int32.toInt p0 = 41 ∨ Int32.toInt p0 = 42 ∨ Int32.toInt p0 = 43 ∨ Int32.toInt p0 = 44 ∨ Int32.toInt p0 = 45 ∨ Int32.toInt p0 = 46 ∨ Int32.toInt p0 = 47 ∨ Int32.toInt p0 = 48 ∨ Int32.toInt p0 = 49 ∨ Int32.toInt p0 = 50 ∨ Int32.toInt p0 = 51 ∨ Int32.toInt p0 = 52 ∨ Int32.toInt p0 = 53 ∨ Int32.toInt p0 = 54 ∨ Int32.toInt p0 = 55 ∨ Int32.toInt p0 = 56 ∨ Int32.toInt p0 = 57 ∨ Int32.toInt p0 = 58 ∨ Int32.toInt p0 = 59 ∨ Int32.toInt p0 = 60 ∨ Int32.toInt p0 = 61 ∨ Int32.toInt p0 = 62 by omega) with e | e | e | e | e | e | e | e | e | e | e | e | e | e | e | e | e | e | e | e | e | e | e | e | e
    · exact absurd (sw_eq (v := 38) (e.trans (by decide))) h1
    · rw [e]; rfl
    · rw [e]; rfl
    · rw [e]; rfl
    · exact absurd (sw_eq (v := 42) (e.trans (by decide))) h2
    · exact absurd (sw_eq (v := 43) (e.trans (by decide))) h3
    · rw [e]; rfl
    · exact absurd (sw_eq (v := 45) (e.trans (by decide))) h4
    · rw [e]; rfl
    · exact absurd (sw_eq (v := 47) (e.trans (by decide))) h5
    · rw [e]; rfl
    · rw [e]; rfl
    · rw [e]; rfl
    · rw [e]; rfl
    · rw [e]; rfl
    · rw [e]; rfl
    · rw [e]; rfl
    · rw [e]; rfl
    · rw [e]; rfl
    · rw [e]; rfl
    · rw [e]; rfl
    · rw [e]; rfl
    · exact absurd (sw_eq (v := 60) (e.trans (by decide))) h8
    · exact absurd (sw_eq (v := 61) (e.trans (by decide))) h10
    · exact absurd (sw_eq (v := 62) (e.trans (by decide))) h12
  · refine go_iload_n (pc := 192) (j := 1) (i := 1) dX9_joined_192 rfl rfl ?_
    refine go_iload_n (pc := 193) (j := 2) (i := 2) dX9_joined_193 rfl rfl ?_
    refine go_iadd (pc := 194) dX9_joined_194 ?_
    refine go_if_le (pc := 195) (tgt := 202) dX9_joined_195 (by decide) (fun h14 => ?_) (fun h14 => ?_)
    · refine go_iconst (pc := 202) (v := 0) dX9_joined_202 (by decide) ?_
      exact go_ireturn (pc := 203) rfl dX9_joined_203
    · refine go_iconst (pc := 198) (v := 1) dX9_joined_198 (by decide) ?_
      refine go_goto (pc := 199) (tgt := 203) dX9_joined_199 (by decide) ?_
      exact go_ireturn (pc := 203) rfl dX9_joined_203

def f_X9_value_L5 (x0 : Nat) (x1 : Nat) (x2 : Nat) : Nat → Int32 → Int32 → zM → Option (Int32 × zM)
  | 0, _, _, _ => none
  | n + 1, x3, x4, u => lt (mR u x0 0) fun r1 => oB r1 fun n1 => if (Int32.ofNat (mN u n1)) ≤ x4 then (ix 0 (mN u x2) (some ((mI u x2 (xN 0)), u))) else (lt (mR u x0 0) fun r2 => oB r2 fun n2 => ix x4 (mN u n2) (lt (fun (z1 : Int32) (u1 : zM) => f_X9_value_L5 x0 x1 x2 n z1 (x4 + 1) u1) fun j1 => if (mI u n2 (xN x4)) = 0 then (lt (mR u x0 1) fun r3 => oB r3 fun n3 => ix x4 (mN u n3) (ix x3 (mN u x2) (lt (sI u x2 (xN x3) (mI u n3 (xN x4))) fun u2 => j1 (x3 + 1) u2))) else (if (mI u n2 (xN x4)) = 1 then (lt (mR u x0 1) fun r4 => oB r4 fun n4 => ix x4 (mN u n4) (ix (mI u n4 (xN x4)) (mN u x1) (ix x3 (mN u x2) (lt (sI u x2 (xN x3) (mI u x1 (xN (mI u n4 (xN x4))))) fun u3 => j1 (x3 + 1) u3)))) else (if (mI u n2 (xN x4)) = 2 then (ix (x3 - 1) (mN u x2) (ix (x3 - 1) (mN u x2) (lt (sI u x2 (xN (x3 - 1)) (1 - (mI u x2 (xN (x3 - 1))))) fun u4 => j1 x3 u4))) else (lt (mR u x0 0) fun r5 => oB r5 fun n5 => ix x4 (mN u n5) (ix ((x3 + (-1)) - 1) (mN u x2) (ix (x3 + (-1)) (mN u x2) (bd (f_X9_joined (mI u n5 (xN x4)) (mI u x2 (xN ((x3 + (-1)) - 1))) (mI u x2 (xN (x3 + (-1)))) u) fun v1 u5 => ix ((x3 + (-1)) - 1) (mN u5 x2) (lt (sI u5 x2 (xN ((x3 + (-1)) - 1)) v1) fun u6 => j1 (x3 + (-1)) u6)))))))))
section
variable {c0 s0 : Nat} {tbv : List ExceptionTableEntry}
set_option maxHeartbeats 4000000 in
theorem g_X9_value_L5 (x0 : Nat) (x1 : Nat) (x2 : Nat) (t_x0 : kd x0 = 9) (t_x1 : kd x1 = 13) (t_x2 : kd x2 = 13) : ∀ (n : Nat) (x3 : Int32) (x4 : Int32) (u : zM), Go RX9 cX9_value 5 (some .int) false 3 83 [] (obT) (zQ rvI) c0 s0 5 [(0, .ref x0), (1, .ref x1), (2, .ref x2), (3, .int x3), (4, .int x4)] [] [] u (f_X9_value_L5 x0 x1 x2 n x3 x4 u) := by
  intro n
  induction n with
  | zero => intros; exact go_none
  | succ n ih =>
    intro x3 x4 u
    unfold f_X9_value_L5
    refine go_iload (pc := 5) (i := 4) dX9_value_5 rfl ?_
    refine go_aload_n (pc := 7) (j := 0) (i := 0) dX9_value_7 rfl rfl ?_
    refine go_getR (pc := 8) (n := x0) (ci := 9) (k := 0) (t := 14) fa_X9_7_9 t_x0 rfl dX9_value_8 fun r1 t_r1 => ?_
    refine go_oB fun n1 e_n1 => ?_
    have t_n1 := t_r1 n1 e_n1
    subst e_n1
    refine go_alen (pc := 11) (by decide) (by decide) t_n1 dX9_value_11 ?_
    refine go_icmp_ge (pc := 12) (tgt := 129) dX9_value_12 (by decide) (fun h1 => ?_) (fun h1 => ?_)
    · refine go_aload_n (pc := 129) (j := 2) (i := 2) dX9_value_129 rfl rfl ?_
      refine go_iconst (pc := 130) (v := 0) dX9_value_130 (by decide) ?_
      refine go_iald (pc := 131) t_x2 dX9_value_131 ?_
      exact go_ireturn (pc := 132) rfl dX9_value_132
    · refine go_aload_n (pc := 15) (j := 0) (i := 0) dX9_value_15 rfl rfl ?_
      refine go_getR (pc := 16) (n := x0) (ci := 9) (k := 0) (t := 14) fa_X9_7_9 t_x0 rfl dX9_value_16 fun r2 t_r2 => ?_
      refine go_iload (pc := 19) (i := 4) dX9_value_19 rfl ?_
      refine go_oB fun n2 e_n2 => ?_
      have t_n2 := t_r2 n2 e_n2
      subst e_n2
      refine go_bald (pc := 21) t_n2 dX9_value_21 ?_
      refine go_join1 (pcx := 123) (α1 := Int32) (fun z1 => [(0, .ref x0), (1, .ref x1), (2, .ref x2), (3, .int z1), (4, .int x4)]) (fun z1 => []) (fun z1 => []) (fun z1 => True) (fun z1 u1 _ => ?_) (fun j1 hj1 => ?_)
      · refine go_iinc (pc := 123) (i := 4) (w := 1) (A' := [(0, .ref x0), (1, .ref x1), (2, .ref x2), (3, .int z1), (4, .int (x4 + 1))]) rfl (by decide) (by decide) rfl rfl rfl dX9_value_123 ?_
        refine go_goto (pc := 126) (tgt := 5) dX9_value_126 (by decide) ?_
        exact go_weak (A' := [(0, .ref x0), (1, .ref x1), (2, .ref x2), (3, .int z1), (4, .int (x4 + 1))]) (B' := []) ⟨rfl, rfl, rfl, rfl, rfl, trivial⟩ rfl (fun q h => by cases h) (ih z1 (x4 + 1) u1)
      · refine go_if (fun h2 => ?_) (fun h2 => ?_)
        · refine go_tableIn (pc := 22) (tgt := 48) 0 h2 dX9_value_22 (by decide) (by decide) rfl (by decide) ?_
          refine go_aload_n (pc := 48) (j := 2) (i := 2) dX9_value_48 rfl rfl ?_
          refine go_iload_n (pc := 49) (j := 3) (i := 3) dX9_value_49 rfl rfl ?_
          refine go_aload_n (pc := 50) (j := 0) (i := 0) dX9_value_50 rfl rfl ?_
          refine go_getR (pc := 51) (n := x0) (ci := 9) (k := 1) (t := 13) fa_X9_13_9 t_x0 rfl dX9_value_51 fun r3 t_r3 => ?_
          refine go_iload (pc := 54) (i := 4) dX9_value_54 rfl ?_
          refine go_oB fun n3 e_n3 => ?_
          have t_n3 := t_r3 n3 e_n3
          subst e_n3
          refine go_iald (pc := 56) t_n3 dX9_value_56 ?_
          refine go_iast (pc := 57) t_x2 dX9_value_57 fun u2 => ?_
          refine go_iinc (pc := 58) (i := 3) (w := 1) (A' := [(0, .ref x0), (1, .ref x1), (2, .ref x2), (3, .int (x3 + 1)), (4, .int x4)]) rfl (by decide) (by decide) rfl rfl rfl dX9_value_58 ?_
          refine go_goto (pc := 61) (tgt := 123) dX9_value_61 (by decide) ?_
          exact go_weak (A' := [(0, .ref x0), (1, .ref x1), (2, .ref x2), (3, .int (x3 + 1)), (4, .int x4)]) (B' := []) ⟨rfl, rfl, rfl, rfl, rfl, trivial⟩ rfl (fun q h => by cases h) (hj1 (x3 + 1) u2 trivial)
        refine go_if (fun h3 => ?_) (fun h3 => ?_)
        · refine go_tableIn (pc := 22) (tgt := 64) 1 h3 dX9_value_22 (by decide) (by decide) rfl (by decide) ?_
          refine go_aload_n (pc := 64) (j := 2) (i := 2) dX9_value_64 rfl rfl ?_
          refine go_iload_n (pc := 65) (j := 3) (i := 3) dX9_value_65 rfl rfl ?_
          refine go_aload_n (pc := 66) (j := 1) (i := 1) dX9_value_66 rfl rfl ?_
          refine go_aload_n (pc := 67) (j := 0) (i := 0) dX9_value_67 rfl rfl ?_
          refine go_getR (pc := 68) (n := x0) (ci := 9) (k := 1) (t := 13) fa_X9_13_9 t_x0 rfl dX9_value_68 fun r4 t_r4 => ?_
          refine go_iload (pc := 71) (i := 4) dX9_value_71 rfl ?_
          refine go_oB fun n4 e_n4 => ?_
          have t_n4 := t_r4 n4 e_n4
          subst e_n4
          refine go_iald (pc := 73) t_n4 dX9_value_73 ?_
          refine go_iald (pc := 74) t_x1 dX9_value_74 ?_
          refine go_iast (pc := 75) t_x2 dX9_value_75 fun u3 => ?_
          refine go_iinc (pc := 76) (i := 3) (w := 1) (A' := [(0, .ref x0), (1, .ref x1), (2, .ref x2), (3, .int (x3 + 1)), (4, .int x4)]) rfl (by decide) (by decide) rfl rfl rfl dX9_value_76 ?_
          refine go_goto (pc := 79) (tgt := 123) dX9_value_79 (by decide) ?_
          exact go_weak (A' := [(0, .ref x0), (1, .ref x1), (2, .ref x2), (3, .int (x3 + 1)), (4, .int x4)]) (B' := []) ⟨rfl, rfl, rfl, rfl, rfl, trivial⟩ rfl (fun q h => by cases h) (hj1 (x3 + 1) u3 trivial)
        refine go_if (fun h4 => ?_) (fun h4 => ?_)
        · refine go_tableIn (pc := 22) (tgt := 82) 2 h4 dX9_value_22 (by decide) (by decide) rfl (by decide) ?_
          refine go_aload_n (pc := 82) (j := 2) (i := 2) dX9_value_82 rfl rfl ?_
          refine go_iload_n (pc := 83) (j := 3) (i := 3) dX9_value_83 rfl rfl ?_
          refine go_iconst (pc := 84) (v := 1) dX9_value_84 (by decide) ?_
          refine go_isub (pc := 85) dX9_value_85 ?_
          refine go_iconst (pc := 86) (v := 1) dX9_value_86 (by decide) ?_
          refine go_aload_n (pc := 87) (j := 2) (i := 2) dX9_value_87 rfl rfl ?_
          refine go_iload_n (pc := 88) (j := 3) (i := 3) dX9_value_88 rfl rfl ?_
          refine go_iconst (pc := 89) (v := 1) dX9_value_89 (by decide) ?_
          refine go_isub (pc := 90) dX9_value_90 ?_
          refine go_iald (pc := 91) t_x2 dX9_value_91 ?_
          refine go_isub (pc := 92) dX9_value_92 ?_
          refine go_iast (pc := 93) t_x2 dX9_value_93 fun u4 => ?_
          refine go_goto (pc := 94) (tgt := 123) dX9_value_94 (by decide) ?_
          exact go_weak (A' := [(0, .ref x0), (1, .ref x1), (2, .ref x2), (3, .int x3), (4, .int x4)]) (B' := []) ⟨rfl, rfl, rfl, rfl, rfl, trivial⟩ rfl (fun q h => by cases h) (hj1 x3 u4 trivial)
        refine go_tableD (pc := 22) (x := (mI u n2 (xN x4))) (tgt := 97) dX9_value_22 (by decide) (fun a b => ?_) ?_
        · rcases (show Int32.toInt (mI u n2 (xN x4)) = 0 ∨ Int32.toInt (mI u n2 (xN x4)) = 1 ∨ Int32.toInt (mI u n2 (xN x4)) = 2 by omega) with e | e | e
          · exact absurd (sw_eq (v := 0) (e.trans (by decide))) h2
          · exact absurd (sw_eq (v := 1) (e.trans (by decide))) h3
          · exact absurd (sw_eq (v := 2) (e.trans (by decide))) h4
        · refine go_iinc (pc := 97) (i := 3) (w := (-1)) (A' := [(0, .ref x0), (1, .ref x1), (2, .ref x2), (3, .int (x3 + (-1))), (4, .int x4)]) rfl (by decide) (by decide) rfl rfl rfl dX9_value_97 ?_
          refine go_aload_n (pc := 100) (j := 2) (i := 2) dX9_value_100 rfl rfl ?_
          refine go_iload_n (pc := 101) (j := 3) (i := 3) dX9_value_101 rfl rfl ?_
          refine go_iconst (pc := 102) (v := 1) dX9_value_102 (by decide) ?_
          refine go_isub (pc := 103) dX9_value_103 ?_
          refine go_aload_n (pc := 104) (j := 0) (i := 0) dX9_value_104 rfl rfl ?_
          refine go_getR (pc := 105) (n := x0) (ci := 9) (k := 0) (t := 14) fa_X9_7_9 t_x0 rfl dX9_value_105 fun r5 t_r5 => ?_
          refine go_iload (pc := 108) (i := 4) dX9_value_108 rfl ?_
          refine go_oB fun n5 e_n5 => ?_
          have t_n5 := t_r5 n5 e_n5
          subst e_n5
          refine go_bald (pc := 110) t_n5 dX9_value_110 ?_
          refine go_aload_n (pc := 111) (j := 2) (i := 2) dX9_value_111 rfl rfl ?_
          refine go_iload_n (pc := 112) (j := 3) (i := 3) dX9_value_112 rfl rfl ?_
          refine go_iconst (pc := 113) (v := 1) dX9_value_113 (by decide) ?_
          refine go_isub (pc := 114) dX9_value_114 ?_
          refine go_iald (pc := 115) t_x2 dX9_value_115 ?_
          refine go_aload_n (pc := 116) (j := 2) (i := 2) dX9_value_116 rfl rfl ?_
          refine go_iload_n (pc := 117) (j := 3) (i := 3) dX9_value_117 rfl rfl ?_
          refine go_iald (pc := 118) t_x2 dX9_value_118 ?_
          refine go_callSI (pc := 119) (ct_X9_joined (mI u n5 (xN x4)) (mI u x2 (xN ((x3 + (-1)) - 1))) (mI u x2 (xN (x3 + (-1))))) lk_X9_17 rfl ⟨by decide, by decide⟩ (Nat.le_of_ble_eq_true rfl) dX9_value_119 rfl fun v1 u5 => ?_
          refine go_iast (pc := 122) t_x2 dX9_value_122 fun u6 => ?_
          exact go_weak (A' := [(0, .ref x0), (1, .ref x1), (2, .ref x2), (3, .int (x3 + (-1))), (4, .int x4)]) (B' := []) ⟨rfl, rfl, rfl, rfl, rfl, trivial⟩ rfl (fun q h => by cases h) (hj1 (x3 + (-1)) u6 trivial)
end
def f_X9_value (self : Nat) (p0 : Nat) (p1 : Nat) (u : zM) : Option (Int32 × zM) := f_X9_value_L5 self p0 p1 zFu 0 0 u
set_option maxHeartbeats 4000000 in
theorem ct_X9_value (self : Nat) (p0 : Nat) (p1 : Nat) (t_self : kd self = 9) (t_p0 : kd p0 = 13) (t_p1 : kd p1 = 13) : zMet yX9_value cX9_value 5 (some .int) 3 83 rvI (obT) [.ref self, .ref p0, .ref p1] (f_X9_value self p0 p1) := by
  refine zMet_of (A := [(0, .ref self), (1, .ref p0), (2, .ref p1)]) (B := []) (ini := false) RX9 rfl (by decide +kernel) (fun h => by cases h) (by simp [lg_sl, Value.category]) (by simp [lv_args, Value.category]) rfl (by simp [lv_args, Value.category]) fun u => ?_
  unfold f_X9_value
  refine go_iconst (pc := 0) (v := 0) dX9_value_0 (by decide) ?_
  refine go_istore_n (pc := 1) (j := 3) (i := 3) (A' := [(0, .ref self), (1, .ref p0), (2, .ref p1), (3, .int 0)]) rfl (by decide) rfl rfl rfl dX9_value_1 ?_
  refine go_iconst (pc := 2) (v := 0) dX9_value_2 (by decide) ?_
  refine go_istore (pc := 3) (i := 4) (A' := [(0, .ref self), (1, .ref p0), (2, .ref p1), (3, .int 0), (4, .int 0)]) (by decide) rfl rfl rfl dX9_value_3 ?_
  exact go_weak (A' := [(0, .ref self), (1, .ref p0), (2, .ref p1), (3, .int 0), (4, .int 0)]) (B' := []) ⟨rfl, rfl, rfl, rfl, rfl, trivial⟩ rfl (fun q h => by cases h) (g_X9_value_L5 self p0 p1 t_self t_p0 t_p1 zFu 0 0 u)

def f_X0_value (self : Nat) (p0 : Int32) (u : zM) : Option (Int32 × zM) := bd (f_X0_inForce self p0 (mI u self 14) u) fun v1 u1 => if v1 = (-1) then (if p0 = 0 then (some (0, u1)) else (if p0 = 2 then (some (0, u1)) else (some (1, u1)))) else (lt (mR u1 self 4) fun r1 => oB r1 fun n1 => ix v1 (mN u1 n1) (lt (mR u1 n1 (xN v1)) fun r2 => oB r2 fun n2 => lt (mR u1 n2 0) fun r3 => oB r3 fun n3 => ix p0 (mN u1 n3) (lt (mR u1 n3 (xN p0)) fun r4 => lt (mR u1 self 9) fun r5 => lt (mR u1 self 10) fun r6 => oB r6 fun n4 => oB r5 fun n5 => oB r4 fun n6 => bd (f_X9_value n6 n5 n4 u1) fun v2 u2 => some (v2, u2))))
set_option maxHeartbeats 4000000 in
theorem ct_X0_value (self : Nat) (p0 : Int32) (t_self : kd self = 0) : zMet yX0_value cX0_value 3 (some .int) 4 107 rvI (obT) [.ref self, .int p0] (f_X0_value self p0) := by
  refine zMet_of (A := [(0, .ref self), (1, .int p0)]) (B := []) (ini := false) RX0 rfl (by decide +kernel) (fun h => by cases h) (by simp [lg_sl, Value.category]) (by simp [lv_args, Value.category]) rfl (by simp [lv_args, Value.category]) fun u => ?_
  unfold f_X0_value
  refine go_aload_n (pc := 0) (j := 0) (i := 0) dX0_value_0 rfl rfl ?_
  refine go_iload_n (pc := 1) (j := 1) (i := 1) dX0_value_1 rfl rfl ?_
  refine go_aload_n (pc := 2) (j := 0) (i := 0) dX0_value_2 rfl rfl ?_
  refine go_getI (pc := 3) (n := self) (ci := 0) (k := 14) fa_X0_151_0 t_self rfl dX0_value_3 ?_
  refine go_callVI (pc := 6) (ci := 0) (ct_X0_inForce self p0 (mI u self 14) t_self) lk_X0_363 rfl rfl rfl (by decide) t_self ⟨by decide, by decide⟩ (Nat.le_of_ble_eq_true rfl) dX0_value_6 rfl fun v1 u1 => ?_
  refine go_istore_n (pc := 9) (j := 2) (i := 2) (A' := [(0, .ref self), (1, .int p0), (2, .int v1)]) rfl (by decide) rfl rfl rfl dX0_value_9 ?_
  refine go_iload_n (pc := 10) (j := 2) (i := 2) dX0_value_10 rfl rfl ?_
  refine go_iconst (pc := 11) (v := (-1)) dX0_value_11 (by decide) ?_
  refine go_icmp_ne (pc := 12) (tgt := 32) dX0_value_12 (by decide) (fun h1 => ?_) (fun h1 => ?_)
  · refine go_iload_n (pc := 15) (j := 1) (i := 1) dX0_value_15 rfl rfl ?_
    refine go_if_eq (pc := 16) (tgt := 24) dX0_value_16 (by decide) (fun h2 => ?_) (fun h2 => ?_)
    · refine go_iconst (pc := 24) (v := 0) dX0_value_24 (by decide) ?_
      refine go_goto (pc := 25) (tgt := 54) dX0_value_25 (by decide) ?_
      exact go_ireturn (pc := 54) rfl dX0_value_54
    · refine go_iload_n (pc := 19) (j := 1) (i := 1) dX0_value_19 rfl rfl ?_
      refine go_iconst (pc := 20) (v := 2) dX0_value_20 (by decide) ?_
      refine go_icmp_ne (pc := 21) (tgt := 28) dX0_value_21 (by decide) (fun h3 => ?_) (fun h3 => ?_)
      · refine go_iconst (pc := 24) (v := 0) dX0_value_24 (by decide) ?_
        refine go_goto (pc := 25) (tgt := 54) dX0_value_25 (by decide) ?_
        exact go_ireturn (pc := 54) rfl dX0_value_54
      · refine go_iconst (pc := 28) (v := 1) dX0_value_28 (by decide) ?_
        refine go_goto (pc := 29) (tgt := 54) dX0_value_29 (by decide) ?_
        exact go_ireturn (pc := 54) rfl dX0_value_54
  · refine go_aload_n (pc := 32) (j := 0) (i := 0) dX0_value_32 rfl rfl ?_
    refine go_getR (pc := 33) (n := self) (ci := 0) (k := 4) (t := 21) fa_X0_48_0 t_self rfl dX0_value_33 fun r1 t_r1 => ?_
    refine go_iload_n (pc := 36) (j := 2) (i := 2) dX0_value_36 rfl rfl ?_
    refine go_oB fun n1 e_n1 => ?_
    have t_n1 := t_r1 n1 e_n1
    subst e_n1
    refine go_aald (pc := 37) (n := n1) (ci := 21) (t := 10) (by decide) (by decide) t_n1 rfl dX0_value_37 fun r2 t_r2 => ?_
    refine go_oB fun n2 e_n2 => ?_
    have t_n2 := t_r2 n2 e_n2
    subst e_n2
    refine go_getR (pc := 38) (n := n2) (ci := 10) (k := 0) (t := 22) fa_X0_359_10 t_n2 rfl dX0_value_38 fun r3 t_r3 => ?_
    refine go_iload_n (pc := 41) (j := 1) (i := 1) dX0_value_41 rfl rfl ?_
    refine go_oB fun n3 e_n3 => ?_
    have t_n3 := t_r3 n3 e_n3
    subst e_n3
    refine go_aald (pc := 42) (n := n3) (ci := 22) (t := 9) (by decide) (by decide) t_n3 rfl dX0_value_42 fun r4 t_r4 => ?_
    refine go_aload_n (pc := 43) (j := 0) (i := 0) dX0_value_43 rfl rfl ?_
    refine go_getR (pc := 44) (n := self) (ci := 0) (k := 9) (t := 13) fa_X0_65_0 t_self rfl dX0_value_44 fun r5 t_r5 => ?_
    refine go_aload_n (pc := 47) (j := 0) (i := 0) dX0_value_47 rfl rfl ?_
    refine go_getR (pc := 48) (n := self) (ci := 0) (k := 10) (t := 13) fa_X0_68_0 t_self rfl dX0_value_48 fun r6 t_r6 => ?_
    refine go_oB fun n4 e_n4 => ?_
    have t_n4 := t_r6 n4 e_n4
    subst e_n4
    refine go_oB fun n5 e_n5 => ?_
    have t_n5 := t_r5 n5 e_n5
    subst e_n5
    refine go_oB fun n6 e_n6 => ?_
    have t_n6 := t_r4 n6 e_n6
    subst e_n6
    refine go_callVI (pc := 51) (ci := 9) (ct_X9_value n6 n5 n4 t_n6 t_n5 t_n4) lk_X0_369 rfl rfl rfl (by decide) t_n6 ⟨by decide, by decide⟩ (Nat.le_of_ble_eq_true rfl) dX0_value_51 rfl fun v2 u2 => ?_
    exact go_ireturn (pc := 54) rfl dX0_value_54

def f_X0_asks (self : Nat) (p0 : Int32) (p1 : Nat) (p2 : Int32) (p3 : Int32) (p4 : Int32) (p5 : Int32) (p6 : Int32) (u : zM) : Option (Int32 × zM) := bd (f_X0_ofHouse self p1 u) fun v1 u1 => lt (mR u1 self 9) fun r1 => oB r1 fun n1 => ix 6 (mN u1 n1) (lt (sI u1 n1 (xN 6) p2) fun u2 => lt (mR u2 self 9) fun r2 => oB r2 fun n2 => ix 7 (mN u2 n2) (lt (sI u2 n2 (xN 7) p3) fun u3 => lt (mR u3 self 9) fun r3 => oB r3 fun n3 => ix 8 (mN u3 n3) (lt (sI u3 n3 (xN 8) p4) fun u4 => lt (mR u4 self 9) fun r4 => oB r4 fun n4 => ix 9 (mN u4 n4) (lt (sI u4 n4 (xN 9) p5) fun u5 => lt (mR u5 self 9) fun r5 => oB r5 fun n5 => ix 11 (mN u5 n5) (lt (sI u5 n5 (xN 11) p6) fun u6 => bd (f_X0_value self p0 u6) fun v2 u7 => some (v2, u7))))))
set_option maxHeartbeats 4000000 in
theorem ct_X0_asks (self : Nat) (p0 : Int32) (p1 : Nat) (p2 : Int32) (p3 : Int32) (p4 : Int32) (p5 : Int32) (p6 : Int32) (t_self : kd self = 0) (t_p1 : kd p1 = 5) : zMet yX0_asks cX0_asks 8 (some .int) 5 129 rvI (obT) [.ref self, .int p0, .ref p1, .int p2, .int p3, .int p4, .int p5, .int p6] (f_X0_asks self p0 p1 p2 p3 p4 p5 p6) := by
  refine zMet_of (A := [(0, .ref self), (1, .int p0), (2, .ref p1), (3, .int p2), (4, .int p3), (5, .int p4), (6, .int p5), (7, .int p6)]) (B := []) (ini := false) RX0 rfl (by decide +kernel) (fun h => by cases h) (by simp [lg_sl, Value.category]) (by simp [lv_args, Value.category]) rfl (by simp [lv_args, Value.category]) fun u => ?_
  unfold f_X0_asks
  refine go_aload_n (pc := 0) (j := 0) (i := 0) dX0_asks_0 rfl rfl ?_
  refine go_aload_n (pc := 1) (j := 2) (i := 2) dX0_asks_1 rfl rfl ?_
  refine go_callVV (pc := 2) (ci := 0) (ct_X0_ofHouse self p1 t_self t_p1) lk_X0_383 rfl rfl rfl (by decide) t_self ⟨by decide, by decide⟩ (Nat.le_of_ble_eq_true rfl) dX0_asks_2 rfl fun v1 u1 => ?_
  refine go_aload_n (pc := 5) (j := 0) (i := 0) dX0_asks_5 rfl rfl ?_
  refine go_getR (pc := 6) (n := self) (ci := 0) (k := 9) (t := 13) fa_X0_65_0 t_self rfl dX0_asks_6 fun r1 t_r1 => ?_
  refine go_bipush (pc := 9) (v := 6) dX0_asks_9 (by decide) ?_
  refine go_iload_n (pc := 11) (j := 3) (i := 3) dX0_asks_11 rfl rfl ?_
  refine go_oB fun n1 e_n1 => ?_
  have t_n1 := t_r1 n1 e_n1
  subst e_n1
  refine go_iast (pc := 12) t_n1 dX0_asks_12 fun u2 => ?_
  refine go_aload_n (pc := 13) (j := 0) (i := 0) dX0_asks_13 rfl rfl ?_
  refine go_getR (pc := 14) (n := self) (ci := 0) (k := 9) (t := 13) fa_X0_65_0 t_self rfl dX0_asks_14 fun r2 t_r2 => ?_
  refine go_bipush (pc := 17) (v := 7) dX0_asks_17 (by decide) ?_
  refine go_iload (pc := 19) (i := 4) dX0_asks_19 rfl ?_
  refine go_oB fun n2 e_n2 => ?_
  have t_n2 := t_r2 n2 e_n2
  subst e_n2
  refine go_iast (pc := 21) t_n2 dX0_asks_21 fun u3 => ?_
  refine go_aload_n (pc := 22) (j := 0) (i := 0) dX0_asks_22 rfl rfl ?_
  refine go_getR (pc := 23) (n := self) (ci := 0) (k := 9) (t := 13) fa_X0_65_0 t_self rfl dX0_asks_23 fun r3 t_r3 => ?_
  refine go_bipush (pc := 26) (v := 8) dX0_asks_26 (by decide) ?_
  refine go_iload (pc := 28) (i := 5) dX0_asks_28 rfl ?_
  refine go_oB fun n3 e_n3 => ?_
  have t_n3 := t_r3 n3 e_n3
  subst e_n3
  refine go_iast (pc := 30) t_n3 dX0_asks_30 fun u4 => ?_
  refine go_aload_n (pc := 31) (j := 0) (i := 0) dX0_asks_31 rfl rfl ?_
  refine go_getR (pc := 32) (n := self) (ci := 0) (k := 9) (t := 13) fa_X0_65_0 t_self rfl dX0_asks_32 fun r4 t_r4 => ?_
  refine go_bipush (pc := 35) (v := 9) dX0_asks_35 (by decide) ?_
  refine go_iload (pc := 37) (i := 6) dX0_asks_37 rfl ?_
  refine go_oB fun n4 e_n4 => ?_
  have t_n4 := t_r4 n4 e_n4
  subst e_n4
  refine go_iast (pc := 39) t_n4 dX0_asks_39 fun u5 => ?_
  refine go_aload_n (pc := 40) (j := 0) (i := 0) dX0_asks_40 rfl rfl ?_
  refine go_getR (pc := 41) (n := self) (ci := 0) (k := 9) (t := 13) fa_X0_65_0 t_self rfl dX0_asks_41 fun r5 t_r5 => ?_
  refine go_bipush (pc := 44) (v := 11) dX0_asks_44 (by decide) ?_
  refine go_iload (pc := 46) (i := 7) dX0_asks_46 rfl ?_
  refine go_oB fun n5 e_n5 => ?_
  have t_n5 := t_r5 n5 e_n5
  subst e_n5
  refine go_iast (pc := 48) t_n5 dX0_asks_48 fun u6 => ?_
  refine go_aload_n (pc := 49) (j := 0) (i := 0) dX0_asks_49 rfl rfl ?_
  refine go_iload_n (pc := 50) (j := 1) (i := 1) dX0_asks_50 rfl rfl ?_
  refine go_callVI (pc := 51) (ci := 0) (ct_X0_value self p0 t_self) lk_X0_263 rfl rfl rfl (by decide) t_self ⟨by decide, by decide⟩ (Nat.le_of_ble_eq_true rfl) dX0_asks_51 rfl fun v2 u7 => ?_
  exact go_ireturn (pc := 54) rfl dX0_asks_54

def f_X0_asksLot (self : Nat) (p0 : Int32) (p1 : Nat) (p2 : Nat) (p3 : Int32) (u : zM) : Option (Int32 × zM) := lt (mR u p1 0) fun r1 => lt (mR u p1 0) fun r2 => oB r2 fun n1 => lt (mR u n1 3) fun r3 => lt (mR u p2 3) fun r4 => oB r4 fun n2 => oB r3 fun n3 => bd (f_X0_farOf self n3 n2 u) fun v1 u1 => oB r1 fun n4 => bd (f_X0_asks self p0 n4 (mI u p2 1) (mI u p1 3) (mI u p1 4) p3 v1 u1) fun v2 u2 => some (v2, u2)
set_option maxHeartbeats 4000000 in
theorem ct_X0_asksLot (self : Nat) (p0 : Int32) (p1 : Nat) (p2 : Nat) (p3 : Int32) (t_self : kd self = 0) (t_p1 : kd p1 = 8) (t_p2 : kd p2 = 5) : zMet yX0_asksLot cX0_asksLot 5 (some .int) 6 156 rvI (obT) [.ref self, .int p0, .ref p1, .ref p2, .int p3] (f_X0_asksLot self p0 p1 p2 p3) := by
  refine zMet_of (A := [(0, .ref self), (1, .int p0), (2, .ref p1), (3, .ref p2), (4, .int p3)]) (B := []) (ini := false) RX0 rfl (by decide +kernel) (fun h => by cases h) (by simp [lg_sl, Value.category]) (by simp [lv_args, Value.category]) rfl (by simp [lv_args, Value.category]) fun u => ?_
  unfold f_X0_asksLot
  refine go_aload_n (pc := 0) (j := 0) (i := 0) dX0_asksLot_0 rfl rfl ?_
  refine go_iload_n (pc := 1) (j := 1) (i := 1) dX0_asksLot_1 rfl rfl ?_
  refine go_aload_n (pc := 2) (j := 2) (i := 2) dX0_asksLot_2 rfl rfl ?_
  refine go_getR (pc := 3) (n := p1) (ci := 8) (k := 0) (t := 5) fa_X0_321_8 t_p1 rfl dX0_asksLot_3 fun r1 t_r1 => ?_
  refine go_aload_n (pc := 6) (j := 3) (i := 3) dX0_asksLot_6 rfl rfl ?_
  refine go_getI (pc := 7) (n := p2) (ci := 5) (k := 1) fa_X0_377_5 t_p2 rfl dX0_asksLot_7 ?_
  refine go_aload_n (pc := 10) (j := 2) (i := 2) dX0_asksLot_10 rfl rfl ?_
  refine go_getI (pc := 11) (n := p1) (ci := 8) (k := 3) fa_X0_329_8 t_p1 rfl dX0_asksLot_11 ?_
  refine go_aload_n (pc := 14) (j := 2) (i := 2) dX0_asksLot_14 rfl rfl ?_
  refine go_getI (pc := 15) (n := p1) (ci := 8) (k := 4) fa_X0_332_8 t_p1 rfl dX0_asksLot_15 ?_
  refine go_iload (pc := 18) (i := 4) dX0_asksLot_18 rfl ?_
  refine go_aload_n (pc := 20) (j := 0) (i := 0) dX0_asksLot_20 rfl rfl ?_
  refine go_aload_n (pc := 21) (j := 2) (i := 2) dX0_asksLot_21 rfl rfl ?_
  refine go_getR (pc := 22) (n := p1) (ci := 8) (k := 0) (t := 5) fa_X0_321_8 t_p1 rfl dX0_asksLot_22 fun r2 t_r2 => ?_
  refine go_oB fun n1 e_n1 => ?_
  have t_n1 := t_r2 n1 e_n1
  subst e_n1
  refine go_getR (pc := 25) (n := n1) (ci := 5) (k := 3) (t := 4) fa_X0_240_5 t_n1 rfl dX0_asksLot_25 fun r3 t_r3 => ?_
  refine go_aload_n (pc := 28) (j := 3) (i := 3) dX0_asksLot_28 rfl rfl ?_
  refine go_getR (pc := 29) (n := p2) (ci := 5) (k := 3) (t := 4) fa_X0_240_5 t_p2 rfl dX0_asksLot_29 fun r4 t_r4 => ?_
  refine go_oB fun n2 e_n2 => ?_
  have t_n2 := t_r4 n2 e_n2
  subst e_n2
  refine go_oB fun n3 e_n3 => ?_
  have t_n3 := t_r3 n3 e_n3
  subst e_n3
  refine go_callVI (pc := 32) (ci := 0) (ct_X0_farOf self n3 n2 t_self t_n3 t_n2) lk_X0_147 rfl rfl rfl (by decide) t_self ⟨by decide, by decide⟩ (by simp [cat_rf, cat_int, cat_ref, cat_long]) dX0_asksLot_32 rfl fun v1 u1 => ?_
  refine go_oB fun n4 e_n4 => ?_
  have t_n4 := t_r1 n4 e_n4
  subst e_n4
  refine go_callVI (pc := 35) (ci := 0) (ct_X0_asks self p0 n4 (mI u p2 1) (mI u p1 3) (mI u p1 4) p3 v1 t_self t_n4) lk_X0_386 rfl rfl rfl (by decide) t_self ⟨by decide, by decide⟩ (Nat.le_of_ble_eq_true rfl) dX0_asksLot_35 rfl fun v2 u2 => ?_
  exact go_ireturn (pc := 38) rfl dX0_asksLot_38

def f_X0_barOf (self : Nat) (p0 : Nat) (p1 : Nat) (p2 : Int32) (u : zM) : Option (Int32 × zM) := lt (mR u p0 15) fun r1 => oC r1 (some (1, u)) fun n1 => lt (mR u p0 15) fun r2 => oB r2 fun n2 => lt (mR u p0 15) fun r3 => oB r3 fun n3 => bd (f_X0_in (mI u p1 3) (mI u n2 0) (mI u n3 1) u) fun v1 u1 => if v1 = 0 then (some (2, u1)) else (if ((mI u1 p1 3) + 30) ≤ (mI u1 p1 4) then (lt (mR u1 p1 0) fun r4 => oB r4 fun n4 => lt (mR u1 n4 3) fun r5 => lt (mR u1 p0 3) fun r6 => oB r6 fun n5 => oB r5 fun n6 => bd (f_X0_farOf self n6 n5 u1) fun v2 u2 => if v2 = (-1) then (some (4, u2)) else (bd (f_X0_asksLot self 3 p1 p0 p2 u2) fun v3 u3 => if v3 = 0 then (some (5, u3)) else (some (0, u3)))) else (some (3, u1)))
set_option maxHeartbeats 4000000 in
theorem ct_X0_barOf (self : Nat) (p0 : Nat) (p1 : Nat) (p2 : Int32) (t_self : kd self = 0) (t_p0 : kd p0 = 5) (t_p1 : kd p1 = 8) : zMet yX0_barOf cX0_barOf 4 (some .int) 7 180 rvI (obT) [.ref self, .ref p0, .ref p1, .int p2] (f_X0_barOf self p0 p1 p2) := by
  refine zMet_of (A := [(0, .ref self), (1, .ref p0), (2, .ref p1), (3, .int p2)]) (B := []) (ini := false) RX0 rfl (by decide +kernel) (fun h => by cases h) (by simp [lg_sl, Value.category]) (by simp [lv_args, Value.category]) rfl (by simp [lv_args, Value.category]) fun u => ?_
  unfold f_X0_barOf
  refine go_aload_n (pc := 0) (j := 1) (i := 1) dX0_barOf_0 rfl rfl ?_
  refine go_getR (pc := 1) (n := p0) (ci := 5) (k := 15) (t := 6) fa_X0_161_5 t_p0 rfl dX0_barOf_1 fun r1 t_r1 => ?_
  refine go_ifnonnull (pc := 4) (tgt := 9) dX0_barOf_4 (by decide) (fun e_n1 => ?_) (fun n1 e_n1 => ?_)
  · subst e_n1
    refine go_iconst (pc := 7) (v := 1) dX0_barOf_7 (by decide) ?_
    exact go_ireturn (pc := 8) rfl dX0_barOf_8
  · have t_n1 := t_r1 n1 e_n1
    subst e_n1
    refine go_aload_n (pc := 9) (j := 2) (i := 2) dX0_barOf_9 rfl rfl ?_
    refine go_getI (pc := 10) (n := p1) (ci := 8) (k := 3) fa_X0_329_8 t_p1 rfl dX0_barOf_10 ?_
    refine go_aload_n (pc := 13) (j := 1) (i := 1) dX0_barOf_13 rfl rfl ?_
    refine go_getR (pc := 14) (n := p0) (ci := 5) (k := 15) (t := 6) fa_X0_161_5 t_p0 rfl dX0_barOf_14 fun r2 t_r2 => ?_
    refine go_oB fun n2 e_n2 => ?_
    have t_n2 := t_r2 n2 e_n2
    subst e_n2
    refine go_getI (pc := 17) (n := n2) (ci := 6) (k := 0) fa_X0_396_6 t_n2 rfl dX0_barOf_17 ?_
    refine go_aload_n (pc := 20) (j := 1) (i := 1) dX0_barOf_20 rfl rfl ?_
    refine go_getR (pc := 21) (n := p0) (ci := 5) (k := 15) (t := 6) fa_X0_161_5 t_p0 rfl dX0_barOf_21 fun r3 t_r3 => ?_
    refine go_oB fun n3 e_n3 => ?_
    have t_n3 := t_r3 n3 e_n3
    subst e_n3
    refine go_getI (pc := 24) (n := n3) (ci := 6) (k := 1) fa_X0_399_6 t_n3 rfl dX0_barOf_24 ?_
    refine go_callSI (pc := 27) (ct_X0_in (mI u p1 3) (mI u n2 0) (mI u n3 1)) lk_X0_116 rfl ⟨by decide, by decide⟩ (Nat.le_of_ble_eq_true rfl) dX0_barOf_27 rfl fun v1 u1 => ?_
    refine go_if_ne (pc := 30) (tgt := 35) dX0_barOf_30 (by decide) (fun h1 => ?_) (fun h1 => ?_)
    · refine go_iconst (pc := 33) (v := 2) dX0_barOf_33 (by decide) ?_
      exact go_ireturn (pc := 34) rfl dX0_barOf_34
    · refine go_aload_n (pc := 35) (j := 2) (i := 2) dX0_barOf_35 rfl rfl ?_
      refine go_getI (pc := 36) (n := p1) (ci := 8) (k := 4) fa_X0_332_8 t_p1 rfl dX0_barOf_36 ?_
      refine go_aload_n (pc := 39) (j := 2) (i := 2) dX0_barOf_39 rfl rfl ?_
      refine go_getI (pc := 40) (n := p1) (ci := 8) (k := 3) fa_X0_329_8 t_p1 rfl dX0_barOf_40 ?_
      refine go_bipush (pc := 43) (v := 30) dX0_barOf_43 (by decide) ?_
      refine go_iadd (pc := 45) dX0_barOf_45 ?_
      refine go_icmp_ge (pc := 46) (tgt := 51) dX0_barOf_46 (by decide) (fun h2 => ?_) (fun h2 => ?_)
      · refine go_aload_n (pc := 51) (j := 0) (i := 0) dX0_barOf_51 rfl rfl ?_
        refine go_aload_n (pc := 52) (j := 2) (i := 2) dX0_barOf_52 rfl rfl ?_
        refine go_getR (pc := 53) (n := p1) (ci := 8) (k := 0) (t := 5) fa_X0_321_8 t_p1 rfl dX0_barOf_53 fun r4 t_r4 => ?_
        refine go_oB fun n4 e_n4 => ?_
        have t_n4 := t_r4 n4 e_n4
        subst e_n4
        refine go_getR (pc := 56) (n := n4) (ci := 5) (k := 3) (t := 4) fa_X0_240_5 t_n4 rfl dX0_barOf_56 fun r5 t_r5 => ?_
        refine go_aload_n (pc := 59) (j := 1) (i := 1) dX0_barOf_59 rfl rfl ?_
        refine go_getR (pc := 60) (n := p0) (ci := 5) (k := 3) (t := 4) fa_X0_240_5 t_p0 rfl dX0_barOf_60 fun r6 t_r6 => ?_
        refine go_oB fun n5 e_n5 => ?_
        have t_n5 := t_r6 n5 e_n5
        subst e_n5
        refine go_oB fun n6 e_n6 => ?_
        have t_n6 := t_r5 n6 e_n6
        subst e_n6
        refine go_callVI (pc := 63) (ci := 0) (ct_X0_farOf self n6 n5 t_self t_n6 t_n5) lk_X0_147 rfl rfl rfl (by decide) t_self ⟨by decide, by decide⟩ (Nat.le_of_ble_eq_true rfl) dX0_barOf_63 rfl fun v2 u2 => ?_
        refine go_iconst (pc := 66) (v := (-1)) dX0_barOf_66 (by decide) ?_
        refine go_icmp_ne (pc := 67) (tgt := 72) dX0_barOf_67 (by decide) (fun h3 => ?_) (fun h3 => ?_)
        · refine go_iconst (pc := 70) (v := 4) dX0_barOf_70 (by decide) ?_
          exact go_ireturn (pc := 71) rfl dX0_barOf_71
        · refine go_aload_n (pc := 72) (j := 0) (i := 0) dX0_barOf_72 rfl rfl ?_
          refine go_iconst (pc := 73) (v := 3) dX0_barOf_73 (by decide) ?_
          refine go_aload_n (pc := 74) (j := 2) (i := 2) dX0_barOf_74 rfl rfl ?_
          refine go_aload_n (pc := 75) (j := 1) (i := 1) dX0_barOf_75 rfl rfl ?_
          refine go_iload_n (pc := 76) (j := 3) (i := 3) dX0_barOf_76 rfl rfl ?_
          refine go_callVI (pc := 77) (ci := 0) (ct_X0_asksLot self 3 p1 p0 p2 t_self t_p1 t_p0) lk_X0_402 rfl rfl rfl (by decide) t_self ⟨by decide, by decide⟩ (Nat.le_of_ble_eq_true rfl) dX0_barOf_77 rfl fun v3 u3 => ?_
          refine go_if_ne (pc := 80) (tgt := 87) dX0_barOf_80 (by decide) (fun h4 => ?_) (fun h4 => ?_)
          · refine go_iconst (pc := 83) (v := 5) dX0_barOf_83 (by decide) ?_
            refine go_goto (pc := 84) (tgt := 88) dX0_barOf_84 (by decide) ?_
            exact go_ireturn (pc := 88) rfl dX0_barOf_88
          · refine go_iconst (pc := 87) (v := 0) dX0_barOf_87 (by decide) ?_
            exact go_ireturn (pc := 88) rfl dX0_barOf_88
      · refine go_iconst (pc := 49) (v := 3) dX0_barOf_49 (by decide) ?_
        exact go_ireturn (pc := 50) rfl dX0_barOf_50

def f_X2_tries_L33 (rc : Nat → Int32 → Int32 → Int32 → zM → Option (Unit × zM)) (x0 : Nat) (x1 : Int32) (x2 : Int32) (x3 : Int32) (x4 : Nat) (x5 : Int32) (k147 : zM → Option (Unit × zM)) : Nat → Int32 → zM → Option (Unit × zM)
  | 0, _, _ => none
  | n + 1, x6, u => if (mI u x0 6) ≤ x6 then (k147 u) else (if x5 ≤ 0 then (k147 u) else (lt (mR u x0 10) fun r3 => lt (mR u x0 1) fun r4 => oB r4 fun n3 => ix x6 (mN u n3) (lt (mR u n3 (xN x6)) fun r5 => oB r5 fun n4 => oB r3 fun n5 => bd (f_X0_barOf n5 n4 x4 x5 u) fun v3 u3 => lt (fun (u4 : zM) => f_X2_tries_L33 rc x0 x1 x2 x3 x4 x5 k147 n (x6 + 1) u4) fun j1 => if v3 = 0 then (lt (mR u3 x0 2) fun r6 => oB r6 fun n6 => ix x1 (mN u3 n6) (lt (sI u3 n6 (xN x1) x6) fun u5 => lt (mR u5 x0 4) fun r7 => oB r7 fun n7 => ix x6 (mN u5 n7) (ix x6 (mN u5 n7) (lt (sI u5 n7 (xN x6) ((mI u5 n7 (xN x6)) + x5)) fun u6 => lt (mR u6 x0 10) fun r8 => lt (mR u6 x4 0) fun r9 => oB r9 fun n8 => lt (mR u6 n8 3) fun r10 => lt (mR u6 x0 1) fun r11 => oB r11 fun n9 => ix x6 (mN u6 n9) (lt (mR u6 n9 (xN x6)) fun r12 => oB r12 fun n10 => lt (mR u6 n10 3) fun r13 => oB r13 fun n11 => oB r10 fun n12 => oB r8 fun n13 => bd (f_X0_farOf n13 n12 n11 u6) fun v4 u7 => bd (rc x0 (x1 + 1) (x2 + x5) (x3 + v4) u7) fun v5 u8 => lt (mR u8 x0 4) fun r14 => oB r14 fun n14 => ix x6 (mN u8 n14) (ix x6 (mN u8 n14) (lt (sI u8 n14 (xN x6) ((mI u8 n14 (xN x6)) - x5)) fun u9 => j1 u9))))))) else (j1 u3))))
section
variable {c0 s0 : Nat} {tbv : List ExceptionTableEntry}
set_option maxHeartbeats 4000000 in
theorem g_X2_tries_L33 (rc : Nat → Int32 → Int32 → Int32 → zM → Option (Unit × zM)) (x0 : Nat) (x1 : Int32) (x2 : Int32) (x3 : Int32) (x4 : Nat) (x5 : Int32) (k147 : zM → Option (Unit × zM)) {FRm LOm Frc Lrc : Nat} (hrc : ∀ (self : Nat) (p0 : Int32) (p1 : Int32) (p2 : Int32), kd self = 2 → zMet yX2_tries cX2_tries 7 (none) Frc Lrc rvV (obT) [.ref self, .int p0, .int p1, .int p2] (rc self p0 p1 p2)) (hFrc : Frc ≤ FRm) (hLrc : Lrc ≤ LOm) (t_x0 : kd x0 = 2) (t_x4 : kd x4 = 8) (hk147 : ∀ (u : zM), Go RX2 cX2_tries 7 (none) false (FRm + 8) (LOm + 203) [] (obT) (zQ rvV) c0 s0 147 [(0, .ref x0), (1, .int x1), (2, .int x2), (3, .int x3)] [] [] u (k147 u)) : ∀ (n : Nat) (x6 : Int32) (u : zM), Go RX2 cX2_tries 7 (none) false (FRm + 8) (LOm + 203) [] (obT) (zQ rvV) c0 s0 33 [(0, .ref x0), (1, .int x1), (2, .int x2), (3, .int x3), (4, .ref x4), (5, .int x5), (6, .int x6)] [] [] u (f_X2_tries_L33 rc x0 x1 x2 x3 x4 x5 k147 n x6 u) := by
  intro n
  induction n with
  | zero => intros; exact go_none
  | succ n ih =>
    intro x6 u
    unfold f_X2_tries_L33
    refine go_iload (pc := 33) (i := 6) dX2_tries_33 rfl ?_
    refine go_aload_n (pc := 35) (j := 0) (i := 0) dX2_tries_35 rfl rfl ?_
    refine go_getI (pc := 36) (n := x0) (ci := 2) (k := 6) fa_X2_37_2 t_x0 rfl dX2_tries_36 ?_
    refine go_icmp_ge (pc := 39) (tgt := 147) dX2_tries_39 (by decide) (fun h2 => ?_) (fun h2 => ?_)
    · exact go_weak (A' := [(0, .ref x0), (1, .int x1), (2, .int x2), (3, .int x3)]) (B' := []) ⟨rfl, rfl, rfl, rfl, trivial⟩ rfl (fun q h => by cases h) (hk147 u)
    · refine go_iload (pc := 42) (i := 5) dX2_tries_42 rfl ?_
      refine go_if_le (pc := 44) (tgt := 147) dX2_tries_44 (by decide) (fun h3 => ?_) (fun h3 => ?_)
      · exact go_weak (A' := [(0, .ref x0), (1, .int x1), (2, .int x2), (3, .int x3)]) (B' := []) ⟨rfl, rfl, rfl, rfl, trivial⟩ rfl (fun q h => by cases h) (hk147 u)
      · refine go_aload_n (pc := 47) (j := 0) (i := 0) dX2_tries_47 rfl rfl ?_
        refine go_getR (pc := 48) (n := x0) (ci := 2) (k := 10) (t := 0) fa_X2_3_2 t_x0 rfl dX2_tries_48 fun r3 t_r3 => ?_
        refine go_aload_n (pc := 51) (j := 0) (i := 0) dX2_tries_51 rfl rfl ?_
        refine go_getR (pc := 52) (n := x0) (ci := 2) (k := 1) (t := 18) fa_X2_23_2 t_x0 rfl dX2_tries_52 fun r4 t_r4 => ?_
        refine go_iload (pc := 55) (i := 6) dX2_tries_55 rfl ?_
        refine go_oB fun n3 e_n3 => ?_
        have t_n3 := t_r4 n3 e_n3
        subst e_n3
        refine go_aald (pc := 57) (n := n3) (ci := 18) (t := 5) (by decide) (by decide) t_n3 rfl dX2_tries_57 fun r5 t_r5 => ?_
        refine go_aload (pc := 58) (i := 4) dX2_tries_58 rfl ?_
        refine go_iload (pc := 60) (i := 5) dX2_tries_60 rfl ?_
        refine go_oB fun n4 e_n4 => ?_
        have t_n4 := t_r5 n4 e_n4
        subst e_n4
        refine go_oB fun n5 e_n5 => ?_
        have t_n5 := t_r3 n5 e_n5
        subst e_n5
        refine go_callVNI (pc := 62) (ci := 0) (ct_X0_barOf n5 n4 x4 x5 t_n5 t_n4 t_x4) lk_X2_66 rfl rfl rfl (by decide) t_n5 ⟨by omega, by omega⟩ (Nat.le_of_ble_eq_true rfl) dX2_tries_62 rfl fun v3 u3 => ?_
        refine go_join0 (pcx := 141) ([(0, .ref x0), (1, .int x1), (2, .int x2), (3, .int x3), (4, .ref x4), (5, .int x5), (6, .int x6)]) ([]) ([]) (True) (fun u4 _ => ?_) (fun j1 hj1 => ?_)
        · refine go_iinc (pc := 141) (i := 6) (w := 1) (A' := [(0, .ref x0), (1, .int x1), (2, .int x2), (3, .int x3), (4, .ref x4), (5, .int x5), (6, .int (x6 + 1))]) rfl (by decide) (by decide) rfl rfl rfl dX2_tries_141 ?_
          refine go_goto (pc := 144) (tgt := 33) dX2_tries_144 (by decide) ?_
          exact go_weak (A' := [(0, .ref x0), (1, .int x1), (2, .int x2), (3, .int x3), (4, .ref x4), (5, .int x5), (6, .int (x6 + 1))]) (B' := []) ⟨rfl, rfl, rfl, rfl, rfl, rfl, rfl, trivial⟩ rfl (fun q h => by cases h) (ih (x6 + 1) u4)
        · refine go_if_eq (pc := 65) (tgt := 71) dX2_tries_65 (by decide) (fun h4 => ?_) (fun h4 => ?_)
          · refine go_aload_n (pc := 71) (j := 0) (i := 0) dX2_tries_71 rfl rfl ?_
            refine go_getR (pc := 72) (n := x0) (ci := 2) (k := 2) (t := 13) fa_X2_27_2 t_x0 rfl dX2_tries_72 fun r6 t_r6 => ?_
            refine go_iload_n (pc := 75) (j := 1) (i := 1) dX2_tries_75 rfl rfl ?_
            refine go_iload (pc := 76) (i := 6) dX2_tries_76 rfl ?_
            refine go_oB fun n6 e_n6 => ?_
            have t_n6 := t_r6 n6 e_n6
            subst e_n6
            refine go_iast (pc := 78) t_n6 dX2_tries_78 fun u5 => ?_
            refine go_aload_n (pc := 79) (j := 0) (i := 0) dX2_tries_79 rfl rfl ?_
            refine go_getR (pc := 80) (n := x0) (ci := 2) (k := 4) (t := 13) fa_X2_34_2 t_x0 rfl dX2_tries_80 fun r7 t_r7 => ?_
            refine go_iload (pc := 83) (i := 6) dX2_tries_83 rfl ?_
            refine go_oB fun n7 e_n7 => ?_
            have t_n7 := t_r7 n7 e_n7
            subst e_n7
            refine go_dup2 (pc := 85) dX2_tries_85 ?_
            refine go_iald (pc := 86) t_n7 dX2_tries_86 ?_
            refine go_iload (pc := 87) (i := 5) dX2_tries_87 rfl ?_
            refine go_iadd (pc := 89) dX2_tries_89 ?_
            refine go_iast (pc := 90) t_n7 dX2_tries_90 fun u6 => ?_
            refine go_aload_n (pc := 91) (j := 0) (i := 0) dX2_tries_91 rfl rfl ?_
            refine go_iload_n (pc := 92) (j := 1) (i := 1) dX2_tries_92 rfl rfl ?_
            refine go_iconst (pc := 93) (v := 1) dX2_tries_93 (by decide) ?_
            refine go_iadd (pc := 94) dX2_tries_94 ?_
            refine go_iload_n (pc := 95) (j := 2) (i := 2) dX2_tries_95 rfl rfl ?_
            refine go_iload (pc := 96) (i := 5) dX2_tries_96 rfl ?_
            refine go_iadd (pc := 98) dX2_tries_98 ?_
            refine go_iload_n (pc := 99) (j := 3) (i := 3) dX2_tries_99 rfl rfl ?_
            refine go_aload_n (pc := 100) (j := 0) (i := 0) dX2_tries_100 rfl rfl ?_
            refine go_getR (pc := 101) (n := x0) (ci := 2) (k := 10) (t := 0) fa_X2_3_2 t_x0 rfl dX2_tries_101 fun r8 t_r8 => ?_
            refine go_aload (pc := 104) (i := 4) dX2_tries_104 rfl ?_
            refine go_getR (pc := 106) (n := x4) (ci := 8) (k := 0) (t := 5) fa_X2_70_8 t_x4 rfl dX2_tries_106 fun r9 t_r9 => ?_
            refine go_oB fun n8 e_n8 => ?_
            have t_n8 := t_r9 n8 e_n8
            subst e_n8
            refine go_getR (pc := 109) (n := n8) (ci := 5) (k := 3) (t := 4) fa_X2_74_5 t_n8 rfl dX2_tries_109 fun r10 t_r10 => ?_
            refine go_aload_n (pc := 112) (j := 0) (i := 0) dX2_tries_112 rfl rfl ?_
            refine go_getR (pc := 113) (n := x0) (ci := 2) (k := 1) (t := 18) fa_X2_23_2 t_x0 rfl dX2_tries_113 fun r11 t_r11 => ?_
            refine go_iload (pc := 116) (i := 6) dX2_tries_116 rfl ?_
            refine go_oB fun n9 e_n9 => ?_
            have t_n9 := t_r11 n9 e_n9
            subst e_n9
            refine go_aald (pc := 118) (n := n9) (ci := 18) (t := 5) (by decide) (by decide) t_n9 rfl dX2_tries_118 fun r12 t_r12 => ?_
            refine go_oB fun n10 e_n10 => ?_
            have t_n10 := t_r12 n10 e_n10
            subst e_n10
            refine go_getR (pc := 119) (n := n10) (ci := 5) (k := 3) (t := 4) fa_X2_74_5 t_n10 rfl dX2_tries_119 fun r13 t_r13 => ?_
            refine go_oB fun n11 e_n11 => ?_
            have t_n11 := t_r13 n11 e_n11
            subst e_n11
            refine go_oB fun n12 e_n12 => ?_
            have t_n12 := t_r10 n12 e_n12
            subst e_n12
            refine go_oB fun n13 e_n13 => ?_
            have t_n13 := t_r8 n13 e_n13
            subst e_n13
            refine go_callVNI (pc := 122) (ci := 0) (ct_X0_farOf n13 n12 n11 t_n13 t_n12 t_n11) lk_X2_78 rfl rfl rfl (by decide) t_n13 ⟨by omega, by omega⟩ (Nat.le_of_ble_eq_true rfl) dX2_tries_122 rfl fun v4 u7 => ?_
            refine go_iadd (pc := 125) dX2_tries_125 ?_
            refine go_callVV (pc := 126) (ci := 2) (hrc x0 (x1 + 1) (x2 + x5) (x3 + v4) t_x0) lk_X2_54 rfl rfl rfl (by decide) t_x0 ⟨by omega, by omega⟩ (Nat.le_of_ble_eq_true rfl) dX2_tries_126 rfl fun v5 u8 => ?_
            refine go_aload_n (pc := 129) (j := 0) (i := 0) dX2_tries_129 rfl rfl ?_
            refine go_getR (pc := 130) (n := x0) (ci := 2) (k := 4) (t := 13) fa_X2_34_2 t_x0 rfl dX2_tries_130 fun r14 t_r14 => ?_
            refine go_iload (pc := 133) (i := 6) dX2_tries_133 rfl ?_
            refine go_oB fun n14 e_n14 => ?_
            have t_n14 := t_r14 n14 e_n14
            subst e_n14
            refine go_dup2 (pc := 135) dX2_tries_135 ?_
            refine go_iald (pc := 136) t_n14 dX2_tries_136 ?_
            refine go_iload (pc := 137) (i := 5) dX2_tries_137 rfl ?_
            refine go_isub (pc := 139) dX2_tries_139 ?_
            refine go_iast (pc := 140) t_n14 dX2_tries_140 fun u9 => ?_
            exact go_weak (A' := [(0, .ref x0), (1, .int x1), (2, .int x2), (3, .int x3), (4, .ref x4), (5, .int x5), (6, .int x6)]) (B' := []) ⟨rfl, rfl, rfl, rfl, rfl, rfl, rfl, trivial⟩ rfl (fun q h => by cases h) (hj1 u9 trivial)
          · refine go_goto (pc := 68) (tgt := 141) dX2_tries_68 (by decide) ?_
            exact go_weak (A' := [(0, .ref x0), (1, .int x1), (2, .int x2), (3, .int x3), (4, .ref x4), (5, .int x5), (6, .int x6)]) (B' := []) ⟨rfl, rfl, rfl, rfl, rfl, rfl, rfl, trivial⟩ rfl (fun q h => by cases h) (hj1 u3 trivial)
end
def b_X2_tries (rc : Nat → Int32 → Int32 → Int32 → zM → Option (Unit × zM)) (self : Nat) (p0 : Int32) (p1 : Int32) (p2 : Int32) (u : zM) : Option (Unit × zM) := if p0 = (mI u self 5) then (bd (f_X2_judges self p1 p2 u) fun v1 u1 => some ((), u1)) else (lt (mR u self 0) fun r1 => oB r1 fun n1 => ix p0 (mN u n1) (lt (mR u n1 (xN p0)) fun r2 => oB r2 fun n2 => bd (f_X8_even n2 u) fun v2 u2 => f_X2_tries_L33 rc self p0 p1 p2 n2 v2 (fun u10 => lt (mR u10 self 2) fun r15 => oB r15 fun n15 => ix p0 (mN u10 n15) (lt (sI u10 n15 (xN p0) (-1)) fun u11 => bd (rc self (p0 + 1) p1 p2 u11) fun v6 u12 => some ((), u12))) zFu 0 u2))
set_option maxHeartbeats 4000000 in
theorem cb_X2_tries (rc : Nat → Int32 → Int32 → Int32 → zM → Option (Unit × zM)) {FRm LOm Frc Lrc : Nat} (hrc : ∀ (self : Nat) (p0 : Int32) (p1 : Int32) (p2 : Int32), kd self = 2 → zMet yX2_tries cX2_tries 7 (none) Frc Lrc rvV (obT) [.ref self, .int p0, .int p1, .int p2] (rc self p0 p1 p2)) (hFrc : Frc ≤ FRm) (hLrc : Lrc ≤ LOm) (self : Nat) (p0 : Int32) (p1 : Int32) (p2 : Int32) (t_self : kd self = 2) : zMet yX2_tries cX2_tries 7 (none) (FRm + 8) (LOm + 203) rvV (obT) [.ref self, .int p0, .int p1, .int p2] (b_X2_tries rc self p0 p1 p2) := by
  refine zMet_of (A := [(0, .ref self), (1, .int p0), (2, .int p1), (3, .int p2)]) (B := []) (ini := false) RX2 rfl (by decide +kernel) (fun h => by cases h) (by simp [lg_sl, Value.category]) (by simp [lv_args, Value.category]) rfl (by simp [lv_args, Value.category]) fun u => ?_
  unfold b_X2_tries
  refine go_iload_n (pc := 0) (j := 1) (i := 1) dX2_tries_0 rfl rfl ?_
  refine go_aload_n (pc := 1) (j := 0) (i := 0) dX2_tries_1 rfl rfl ?_
  refine go_getI (pc := 2) (n := self) (ci := 2) (k := 5) fa_X2_41_2 t_self rfl dX2_tries_2 ?_
  refine go_icmp_ne (pc := 5) (tgt := 15) dX2_tries_5 (by decide) (fun h1 => ?_) (fun h1 => ?_)
  · refine go_aload_n (pc := 8) (j := 0) (i := 0) dX2_tries_8 rfl rfl ?_
    refine go_iload_n (pc := 9) (j := 2) (i := 2) dX2_tries_9 rfl rfl ?_
    refine go_iload_n (pc := 10) (j := 3) (i := 3) dX2_tries_10 rfl rfl ?_
    refine go_callVV (pc := 11) (ci := 2) (ct_X2_judges self p1 p2 t_self) lk_X2_58 rfl rfl rfl (by decide) t_self ⟨by omega, by omega⟩ (Nat.le_of_ble_eq_true rfl) dX2_tries_11 rfl fun v1 u1 => ?_
    exact go_vreturn (pc := 14) rfl dX2_tries_14
  · refine go_aload_n (pc := 15) (j := 0) (i := 0) dX2_tries_15 rfl rfl ?_
    refine go_getR (pc := 16) (n := self) (ci := 2) (k := 0) (t := 19) fa_X2_17_2 t_self rfl dX2_tries_16 fun r1 t_r1 => ?_
    refine go_iload_n (pc := 19) (j := 1) (i := 1) dX2_tries_19 rfl rfl ?_
    refine go_oB fun n1 e_n1 => ?_
    have t_n1 := t_r1 n1 e_n1
    subst e_n1
    refine go_aald (pc := 20) (n := n1) (ci := 19) (t := 8) (by decide) (by decide) t_n1 rfl dX2_tries_20 fun r2 t_r2 => ?_
    refine go_astoreQ (pc := 21) (r := r2) (i := 4) (A' := [(0, .ref self), (1, .int p0), (2, .int p1), (3, .int p2), (4, va_rf r2)]) (by decide) rfl rfl rfl dX2_tries_21 ?_
    refine go_aloadQ (pc := 23) (r := r2) (i := 4) dX2_tries_23 rfl ?_
    refine go_oB fun n2 e_n2 => ?_
    have t_n2 := t_r2 n2 e_n2
    subst e_n2
    refine go_callVI (pc := 25) (ci := 8) (ct_X8_even n2 t_n2) lk_X2_62 rfl rfl rfl (by decide) t_n2 ⟨by omega, by omega⟩ (Nat.le_of_ble_eq_true rfl) dX2_tries_25 rfl fun v2 u2 => ?_
    refine go_istore (pc := 28) (i := 5) (A' := [(0, .ref self), (1, .int p0), (2, .int p1), (3, .int p2), (4, .ref n2), (5, .int v2)]) (by decide) rfl rfl rfl dX2_tries_28 ?_
    refine go_iconst (pc := 30) (v := 0) dX2_tries_30 (by decide) ?_
    refine go_istore (pc := 31) (i := 6) (A' := [(0, .ref self), (1, .int p0), (2, .int p1), (3, .int p2), (4, .ref n2), (5, .int v2), (6, .int 0)]) (by decide) rfl rfl rfl dX2_tries_31 ?_
    refine go_weak (A' := [(0, .ref self), (1, .int p0), (2, .int p1), (3, .int p2), (4, .ref n2), (5, .int v2), (6, .int 0)]) (B' := []) ⟨rfl, rfl, rfl, rfl, rfl, rfl, rfl, trivial⟩ rfl (fun q h => by cases h) (g_X2_tries_L33 rc self p0 p1 p2 n2 v2 _ hrc hFrc hLrc t_self t_n2 ?_ zFu 0 u2)
    · intro u10
      refine go_aload_n (pc := 147) (j := 0) (i := 0) dX2_tries_147 rfl rfl ?_
      refine go_getR (pc := 148) (n := self) (ci := 2) (k := 2) (t := 13) fa_X2_27_2 t_self rfl dX2_tries_148 fun r15 t_r15 => ?_
      refine go_iload_n (pc := 151) (j := 1) (i := 1) dX2_tries_151 rfl rfl ?_
      refine go_iconst (pc := 152) (v := (-1)) dX2_tries_152 (by decide) ?_
      refine go_oB fun n15 e_n15 => ?_
      have t_n15 := t_r15 n15 e_n15
      subst e_n15
      refine go_iast (pc := 153) t_n15 dX2_tries_153 fun u11 => ?_
      refine go_aload_n (pc := 154) (j := 0) (i := 0) dX2_tries_154 rfl rfl ?_
      refine go_iload_n (pc := 155) (j := 1) (i := 1) dX2_tries_155 rfl rfl ?_
      refine go_iconst (pc := 156) (v := 1) dX2_tries_156 (by decide) ?_
      refine go_iadd (pc := 157) dX2_tries_157 ?_
      refine go_iload_n (pc := 158) (j := 2) (i := 2) dX2_tries_158 rfl rfl ?_
      refine go_iload_n (pc := 159) (j := 3) (i := 3) dX2_tries_159 rfl rfl ?_
      refine go_callVV (pc := 160) (ci := 2) (hrc self (p0 + 1) p1 p2 t_self) lk_X2_54 rfl rfl rfl (by decide) t_self ⟨by omega, by omega⟩ (Nat.le_of_ble_eq_true rfl) dX2_tries_160 rfl fun v6 u12 => ?_
      exact go_vreturn (pc := 163) rfl dX2_tries_163

def f_X2_tries : Nat → Nat → Int32 → Int32 → Int32 → zM → Option (Unit × zM)
  | 0 => fun _ _ _ _ _ => none
  | d + 1 => b_X2_tries (f_X2_tries d)
theorem ct_X2_tries : ∀ (d : Nat) (self : Nat) (p0 : Int32) (p1 : Int32) (p2 : Int32), kd self = 2 → zMet yX2_tries cX2_tries 7 (none) (8 * d) (203 * d) rvV (obT) [.ref self, .int p0, .int p1, .int p2] (f_X2_tries d self p0 p1 p2) := by
  intro d
  induction d with
  | zero => intro self p0 p1 p2 t_self u b u' h; cases h
  | succ d ih => intro self p0 p1 p2 t_self; exact cb_X2_tries (f_X2_tries d) ih (Nat.le_refl _) (Nat.le_refl _) self p0 p1 p2 t_self
def f_X3_looks_L24 (x0 : Nat) (x1 : Int32) (x3 : Int32) (x4 : Int32) (k79 : Int32 → Int32 → zM → Option (Unit × zM)) : Nat → Int32 → Int32 → Int32 → zM → Option (Unit × zM)
  | 0, _, _, _, _ => none
  | n + 1, x2, x5, x6, u => if (mI u x0 86) ≤ x6 then (k79 x2 x5 u) else (lt (mR u x0 82) fun r1 => oB r1 fun n1 => ix x6 (mN u n1) (lt (fun (z1 : Int32) (z2 : Int32) (u1 : zM) => f_X3_looks_L24 x0 x1 x3 x4 k79 n z1 z2 (x6 + 1) u1) fun j1 => if (mI u n1 (xN x6)) = x4 then (lt (mR u x0 80) fun r2 => oB r2 fun n2 => ix x6 (mN u n2) (lt (mR u x0 85) fun r3 => oB r3 fun n3 => ix x6 (mN u n3) (lt (mR u n3 (xN x6)) fun r4 => oB r4 fun n4 => ix x4 (mN u n4) (j1 (x2 + (mI u n4 (xN x4))) (x5 + (mI u n2 (xN x6))) u)))) else (j1 x2 x5 u)))
section
variable {c0 s0 : Nat} {tbv : List ExceptionTableEntry}
set_option maxHeartbeats 4000000 in
theorem g_X3_looks_L24 (x0 : Nat) (x1 : Int32) (x3 : Int32) (x4 : Int32) (k79 : Int32 → Int32 → zM → Option (Unit × zM)) (t_x0 : kd x0 = 3) (hk79 : ∀ (x2 : Int32) (x5 : Int32) (u : zM), Go RX3 cX3_looks 7 (none) false 1 0 [] (obT) (zQ rvV) c0 s0 79 [(0, .ref x0), (1, .int x1), (2, .int x2), (3, .int x3), (4, .int x4), (5, .int x5)] [] [] u (k79 x2 x5 u)) : ∀ (n : Nat) (x2 : Int32) (x5 : Int32) (x6 : Int32) (u : zM), Go RX3 cX3_looks 7 (none) false 1 0 [] (obT) (zQ rvV) c0 s0 24 [(0, .ref x0), (1, .int x1), (2, .int x2), (3, .int x3), (4, .int x4), (5, .int x5), (6, .int x6)] [] [] u (f_X3_looks_L24 x0 x1 x3 x4 k79 n x2 x5 x6 u) := by
  intro n
  induction n with
  | zero => intros; exact go_none
  | succ n ih =>
    intro x2 x5 x6 u
    unfold f_X3_looks_L24
    refine go_iload (pc := 24) (i := 6) dX3_looks_24 rfl ?_
    refine go_aload_n (pc := 26) (j := 0) (i := 0) dX3_looks_26 rfl rfl ?_
    refine go_getI (pc := 27) (n := x0) (ci := 3) (k := 86) fa_X3_504_3 t_x0 rfl dX3_looks_27 ?_
    refine go_icmp_ge (pc := 30) (tgt := 79) dX3_looks_30 (by decide) (fun h2 => ?_) (fun h2 => ?_)
    · exact go_weak (A' := [(0, .ref x0), (1, .int x1), (2, .int x2), (3, .int x3), (4, .int x4), (5, .int x5)]) (B' := []) ⟨rfl, rfl, rfl, rfl, rfl, rfl, trivial⟩ rfl (fun q h => by cases h) (hk79 x2 x5 u)
    · refine go_aload_n (pc := 33) (j := 0) (i := 0) dX3_looks_33 rfl rfl ?_
      refine go_getR (pc := 34) (n := x0) (ci := 3) (k := 82) (t := 13) fa_X3_243_3 t_x0 rfl dX3_looks_34 fun r1 t_r1 => ?_
      refine go_iload (pc := 37) (i := 6) dX3_looks_37 rfl ?_
      refine go_oB fun n1 e_n1 => ?_
      have t_n1 := t_r1 n1 e_n1
      subst e_n1
      refine go_iald (pc := 39) t_n1 dX3_looks_39 ?_
      refine go_iload (pc := 40) (i := 4) dX3_looks_40 rfl ?_
      refine go_join2 (pcx := 73) (α1 := Int32) (α2 := Int32) (fun z1 z2 => [(0, .ref x0), (1, .int x1), (2, .int z1), (3, .int x3), (4, .int x4), (5, .int z2), (6, .int x6)]) (fun z1 z2 => []) (fun z1 z2 => []) (fun z1 z2 => True) (fun z1 z2 u1 _ => ?_) (fun j1 hj1 => ?_)
      · refine go_iinc (pc := 73) (i := 6) (w := 1) (A' := [(0, .ref x0), (1, .int x1), (2, .int z1), (3, .int x3), (4, .int x4), (5, .int z2), (6, .int (x6 + 1))]) rfl (by decide) (by decide) rfl rfl rfl dX3_looks_73 ?_
        refine go_goto (pc := 76) (tgt := 24) dX3_looks_76 (by decide) ?_
        exact go_weak (A' := [(0, .ref x0), (1, .int x1), (2, .int z1), (3, .int x3), (4, .int x4), (5, .int z2), (6, .int (x6 + 1))]) (B' := []) ⟨rfl, rfl, rfl, rfl, rfl, rfl, rfl, trivial⟩ rfl (fun q h => by cases h) (ih z1 z2 (x6 + 1) u1)
      · refine go_icmp_eq (pc := 42) (tgt := 48) dX3_looks_42 (by decide) (fun h3 => ?_) (fun h3 => ?_)
        · refine go_iload (pc := 48) (i := 5) dX3_looks_48 rfl ?_
          refine go_aload_n (pc := 50) (j := 0) (i := 0) dX3_looks_50 rfl rfl ?_
          refine go_getR (pc := 51) (n := x0) (ci := 3) (k := 80) (t := 13) fa_X3_237_3 t_x0 rfl dX3_looks_51 fun r2 t_r2 => ?_
          refine go_iload (pc := 54) (i := 6) dX3_looks_54 rfl ?_
          refine go_oB fun n2 e_n2 => ?_
          have t_n2 := t_r2 n2 e_n2
          subst e_n2
          refine go_iald (pc := 56) t_n2 dX3_looks_56 ?_
          refine go_iadd (pc := 57) dX3_looks_57 ?_
          refine go_istore (pc := 58) (i := 5) (A' := [(0, .ref x0), (1, .int x1), (2, .int x2), (3, .int x3), (4, .int x4), (5, .int (x5 + (mI u n2 (xN x6)))), (6, .int x6)]) (by decide) rfl rfl rfl dX3_looks_58 ?_
          refine go_iload_n (pc := 60) (j := 2) (i := 2) dX3_looks_60 rfl rfl ?_
          refine go_aload_n (pc := 61) (j := 0) (i := 0) dX3_looks_61 rfl rfl ?_
          refine go_getR (pc := 62) (n := x0) (ci := 3) (k := 85) (t := 23) fa_X3_253_3 t_x0 rfl dX3_looks_62 fun r3 t_r3 => ?_
          refine go_iload (pc := 65) (i := 6) dX3_looks_65 rfl ?_
          refine go_oB fun n3 e_n3 => ?_
          have t_n3 := t_r3 n3 e_n3
          subst e_n3
          refine go_aald (pc := 67) (n := n3) (ci := 23) (t := 13) (by decide) (by decide) t_n3 rfl dX3_looks_67 fun r4 t_r4 => ?_
          refine go_iload (pc := 68) (i := 4) dX3_looks_68 rfl ?_
          refine go_oB fun n4 e_n4 => ?_
          have t_n4 := t_r4 n4 e_n4
          subst e_n4
          refine go_iald (pc := 70) t_n4 dX3_looks_70 ?_
          refine go_iadd (pc := 71) dX3_looks_71 ?_
          refine go_istore_n (pc := 72) (j := 2) (i := 2) (A' := [(0, .ref x0), (1, .int x1), (2, .int (x2 + (mI u n4 (xN x4)))), (3, .int x3), (4, .int x4), (5, .int (x5 + (mI u n2 (xN x6)))), (6, .int x6)]) rfl (by decide) rfl rfl rfl dX3_looks_72 ?_
          exact go_weak (A' := [(0, .ref x0), (1, .int x1), (2, .int (x2 + (mI u n4 (xN x4)))), (3, .int x3), (4, .int x4), (5, .int (x5 + (mI u n2 (xN x6)))), (6, .int x6)]) (B' := []) ⟨rfl, rfl, rfl, rfl, rfl, rfl, rfl, trivial⟩ rfl (fun q h => by cases h) (hj1 (x2 + (mI u n4 (xN x4))) (x5 + (mI u n2 (xN x6))) u trivial)
        · refine go_goto (pc := 45) (tgt := 73) dX3_looks_45 (by decide) ?_
          exact go_weak (A' := [(0, .ref x0), (1, .int x1), (2, .int x2), (3, .int x3), (4, .int x4), (5, .int x5), (6, .int x6)]) (B' := []) ⟨rfl, rfl, rfl, rfl, rfl, rfl, rfl, trivial⟩ rfl (fun q h => by cases h) (hj1 x2 x5 u trivial)
end
def f_X3_looks_L9 (x0 : Nat) (k140 : Int32 → Int32 → Int32 → zM → Option (Unit × zM)) : Nat → Int32 → Int32 → Int32 → Int32 → zM → Option (Unit × zM)
  | 0, _, _, _, _, _ => none
  | n + 1, x1, x2, x3, x4, u => if (mI u x0 87) ≤ x4 then (k140 x1 x2 x3 u) else (f_X3_looks_L24 x0 x1 x3 x4 (fun z3 z4 u2 => lt (fun (z5 : Int32) (u3 : zM) => lt (fun (z6 : Int32) (u4 : zM) => f_X3_looks_L9 x0 k140 n (x1 + z4) z3 z6 (x4 + 1) u4) fun j3 => if z5 ≤ x3 then (j3 x3 u3) else (j3 z5 u3)) fun j2 => if z4 = 0 then (j2 0 u2) else (lt (mR u2 x0 32) fun r5 => lt (mR u2 x0 81) fun r6 => oB r6 fun n5 => ix x4 (mN u2 n5) (oB r5 fun n6 => ix (mI u2 n5 (xN x4)) (mN u2 n6) (lt (mR u2 x0 32) fun r7 => lt (mR u2 x0 81) fun r8 => oB r8 fun n7 => ix x4 (mN u2 n7) (oB r7 fun n8 => ix (mI u2 n7 (xN x4)) (mN u2 n8) (gz (mI u2 n8 (xN (mI u2 n7 (xN x4)))) (j2 (((z4 + (mI u2 n6 (xN (mI u2 n5 (xN x4))))) - 1) / (mI u2 n8 (xN (mI u2 n7 (xN x4))))) u2))))))) zFu x2 0 0 u)
section
variable {c0 s0 : Nat} {tbv : List ExceptionTableEntry}
set_option maxHeartbeats 4000000 in
theorem g_X3_looks_L9 (x0 : Nat) (k140 : Int32 → Int32 → Int32 → zM → Option (Unit × zM)) (t_x0 : kd x0 = 3) (hk140 : ∀ (x1 : Int32) (x2 : Int32) (x3 : Int32) (u : zM), Go RX3 cX3_looks 7 (none) false 1 0 [] (obT) (zQ rvV) c0 s0 140 [(0, .ref x0), (1, .int x1), (2, .int x2), (3, .int x3)] [] [] u (k140 x1 x2 x3 u)) : ∀ (n : Nat) (x1 : Int32) (x2 : Int32) (x3 : Int32) (x4 : Int32) (u : zM), Go RX3 cX3_looks 7 (none) false 1 0 [] (obT) (zQ rvV) c0 s0 9 [(0, .ref x0), (1, .int x1), (2, .int x2), (3, .int x3), (4, .int x4)] [] [] u (f_X3_looks_L9 x0 k140 n x1 x2 x3 x4 u) := by
  intro n
  induction n with
  | zero => intros; exact go_none
  | succ n ih =>
    intro x1 x2 x3 x4 u
    unfold f_X3_looks_L9
    refine go_iload (pc := 9) (i := 4) dX3_looks_9 rfl ?_
    refine go_aload_n (pc := 11) (j := 0) (i := 0) dX3_looks_11 rfl rfl ?_
    refine go_getI (pc := 12) (n := x0) (ci := 3) (k := 87) fa_X3_507_3 t_x0 rfl dX3_looks_12 ?_
    refine go_icmp_ge (pc := 15) (tgt := 140) dX3_looks_15 (by decide) (fun h1 => ?_) (fun h1 => ?_)
    · exact go_weak (A' := [(0, .ref x0), (1, .int x1), (2, .int x2), (3, .int x3)]) (B' := []) ⟨rfl, rfl, rfl, rfl, trivial⟩ rfl (fun q h => by cases h) (hk140 x1 x2 x3 u)
    · refine go_iconst (pc := 18) (v := 0) dX3_looks_18 (by decide) ?_
      refine go_istore (pc := 19) (i := 5) (A' := [(0, .ref x0), (1, .int x1), (2, .int x2), (3, .int x3), (4, .int x4), (5, .int 0)]) (by decide) rfl rfl rfl dX3_looks_19 ?_
      refine go_iconst (pc := 21) (v := 0) dX3_looks_21 (by decide) ?_
      refine go_istore (pc := 22) (i := 6) (A' := [(0, .ref x0), (1, .int x1), (2, .int x2), (3, .int x3), (4, .int x4), (5, .int 0), (6, .int 0)]) (by decide) rfl rfl rfl dX3_looks_22 ?_
      refine go_weak (A' := [(0, .ref x0), (1, .int x1), (2, .int x2), (3, .int x3), (4, .int x4), (5, .int 0), (6, .int 0)]) (B' := []) ⟨rfl, rfl, rfl, rfl, rfl, rfl, rfl, trivial⟩ rfl (fun q h => by cases h) (g_X3_looks_L24 x0 x1 x3 x4 _ t_x0 ?_ zFu x2 0 0 u)
      · intro z3 z4 u2
        refine go_iload_n (pc := 79) (j := 1) (i := 1) dX3_looks_79 rfl rfl ?_
        refine go_iload (pc := 80) (i := 5) dX3_looks_80 rfl ?_
        refine go_iadd (pc := 82) dX3_looks_82 ?_
        refine go_istore_n (pc := 83) (j := 1) (i := 1) (A' := [(0, .ref x0), (1, .int (x1 + z4)), (2, .int z3), (3, .int x3), (4, .int x4), (5, .int z4)]) rfl (by decide) rfl rfl rfl dX3_looks_83 ?_
        refine go_iload (pc := 84) (i := 5) dX3_looks_84 rfl ?_
        refine go_join1 (pcx := 123) (α1 := Int32) (fun z5 => [(0, .ref x0), (1, .int (x1 + z4)), (2, .int z3), (3, .int x3), (4, .int x4)]) (fun z5 => []) (fun z5 => [.int z5]) (fun z5 => True) (fun z5 u3 _ => ?_) (fun j2 hj2 => ?_)
        · refine go_istore (pc := 123) (i := 6) (A' := [(0, .ref x0), (1, .int (x1 + z4)), (2, .int z3), (3, .int x3), (4, .int x4), (6, .int z5)]) (by decide) rfl rfl rfl dX3_looks_123 ?_
          refine go_iload (pc := 125) (i := 6) dX3_looks_125 rfl ?_
          refine go_iload_n (pc := 127) (j := 3) (i := 3) dX3_looks_127 rfl rfl ?_
          refine go_join1 (pcx := 134) (α1 := Int32) (fun z6 => [(0, .ref x0), (1, .int (x1 + z4)), (2, .int z3), (3, .int z6), (4, .int x4)]) (fun z6 => []) (fun z6 => []) (fun z6 => True) (fun z6 u4 _ => ?_) (fun j3 hj3 => ?_)
          · refine go_iinc (pc := 134) (i := 4) (w := 1) (A' := [(0, .ref x0), (1, .int (x1 + z4)), (2, .int z3), (3, .int z6), (4, .int (x4 + 1))]) rfl (by decide) (by decide) rfl rfl rfl dX3_looks_134 ?_
            refine go_goto (pc := 137) (tgt := 9) dX3_looks_137 (by decide) ?_
            exact go_weak (A' := [(0, .ref x0), (1, .int (x1 + z4)), (2, .int z3), (3, .int z6), (4, .int (x4 + 1))]) (B' := []) ⟨rfl, rfl, rfl, rfl, rfl, trivial⟩ rfl (fun q h => by cases h) (ih (x1 + z4) z3 z6 (x4 + 1) u4)
          · refine go_icmp_le (pc := 128) (tgt := 134) dX3_looks_128 (by decide) (fun h4 => ?_) (fun h4 => ?_)
            · exact go_weak (A' := [(0, .ref x0), (1, .int (x1 + z4)), (2, .int z3), (3, .int x3), (4, .int x4)]) (B' := []) ⟨rfl, rfl, rfl, rfl, rfl, trivial⟩ rfl (fun q h => by cases h) (hj3 x3 u3 trivial)
            · refine go_iload (pc := 131) (i := 6) dX3_looks_131 rfl ?_
              refine go_istore_n (pc := 133) (j := 3) (i := 3) (A' := [(0, .ref x0), (1, .int (x1 + z4)), (2, .int z3), (3, .int z5), (4, .int x4), (6, .int z5)]) rfl (by decide) rfl rfl rfl dX3_looks_133 ?_
              exact go_weak (A' := [(0, .ref x0), (1, .int (x1 + z4)), (2, .int z3), (3, .int z5), (4, .int x4)]) (B' := []) ⟨rfl, rfl, rfl, rfl, rfl, trivial⟩ rfl (fun q h => by cases h) (hj3 z5 u3 trivial)
        · refine go_if_ne (pc := 86) (tgt := 93) dX3_looks_86 (by decide) (fun h5 => ?_) (fun h5 => ?_)
          · refine go_iconst (pc := 89) (v := 0) dX3_looks_89 (by decide) ?_
            refine go_goto (pc := 90) (tgt := 123) dX3_looks_90 (by decide) ?_
            exact go_weak (A' := [(0, .ref x0), (1, .int (x1 + z4)), (2, .int z3), (3, .int x3), (4, .int x4)]) (B' := []) ⟨rfl, rfl, rfl, rfl, rfl, trivial⟩ rfl (fun q h => by cases h) (hj2 0 u2 trivial)
          · refine go_iload (pc := 93) (i := 5) dX3_looks_93 rfl ?_
            refine go_aload_n (pc := 95) (j := 0) (i := 0) dX3_looks_95 rfl rfl ?_
            refine go_getR (pc := 96) (n := x0) (ci := 3) (k := 32) (t := 13) fa_X3_99_3 t_x0 rfl dX3_looks_96 fun r5 t_r5 => ?_
            refine go_aload_n (pc := 99) (j := 0) (i := 0) dX3_looks_99 rfl rfl ?_
            refine go_getR (pc := 100) (n := x0) (ci := 3) (k := 81) (t := 13) fa_X3_240_3 t_x0 rfl dX3_looks_100 fun r6 t_r6 => ?_
            refine go_iload (pc := 103) (i := 4) dX3_looks_103 rfl ?_
            refine go_oB fun n5 e_n5 => ?_
            have t_n5 := t_r6 n5 e_n5
            subst e_n5
            refine go_iald (pc := 105) t_n5 dX3_looks_105 ?_
            refine go_oB fun n6 e_n6 => ?_
            have t_n6 := t_r5 n6 e_n6
            subst e_n6
            refine go_iald (pc := 106) t_n6 dX3_looks_106 ?_
            refine go_iadd (pc := 107) dX3_looks_107 ?_
            refine go_iconst (pc := 108) (v := 1) dX3_looks_108 (by decide) ?_
            refine go_isub (pc := 109) dX3_looks_109 ?_
            refine go_aload_n (pc := 110) (j := 0) (i := 0) dX3_looks_110 rfl rfl ?_
            refine go_getR (pc := 111) (n := x0) (ci := 3) (k := 32) (t := 13) fa_X3_99_3 t_x0 rfl dX3_looks_111 fun r7 t_r7 => ?_
            refine go_aload_n (pc := 114) (j := 0) (i := 0) dX3_looks_114 rfl rfl ?_
            refine go_getR (pc := 115) (n := x0) (ci := 3) (k := 81) (t := 13) fa_X3_240_3 t_x0 rfl dX3_looks_115 fun r8 t_r8 => ?_
            refine go_iload (pc := 118) (i := 4) dX3_looks_118 rfl ?_
            refine go_oB fun n7 e_n7 => ?_
            have t_n7 := t_r8 n7 e_n7
            subst e_n7
            refine go_iald (pc := 120) t_n7 dX3_looks_120 ?_
            refine go_oB fun n8 e_n8 => ?_
            have t_n8 := t_r7 n8 e_n8
            subst e_n8
            refine go_iald (pc := 121) t_n8 dX3_looks_121 ?_
            refine go_gz fun h6 => ?_
            refine go_idiv (pc := 122) dX3_looks_122 h6 ?_
            exact go_weak (A' := [(0, .ref x0), (1, .int (x1 + z4)), (2, .int z3), (3, .int x3), (4, .int x4)]) (B' := []) ⟨rfl, rfl, rfl, rfl, rfl, trivial⟩ rfl (fun q h => by cases h) (hj2 (((z4 + (mI u2 n6 (xN (mI u2 n5 (xN x4))))) - 1) / (mI u2 n8 (xN (mI u2 n7 (xN x4))))) u2 trivial)
end
def f_X3_looks_L199 (x0 : Nat) : Nat → Int32 → zM → Option (Unit × zM)
  | 0, _, _ => none
  | n + 1, x4, u => if (mI u x0 86) ≤ x4 then (some ((), u)) else (lt (mR u x0 83) fun r9 => lt (mR u x0 82) fun r10 => oB r10 fun n9 => ix x4 (mN u n9) (oB r9 fun n10 => ix x4 (mN u n10) (lt (sI u n10 (xN x4) (mI u n9 (xN x4))) fun u10 => f_X3_looks_L199 x0 n (x4 + 1) u10)))
section
variable {c0 s0 : Nat} {tbv : List ExceptionTableEntry}
set_option maxHeartbeats 4000000 in
theorem g_X3_looks_L199 (x0 : Nat) (t_x0 : kd x0 = 3) : ∀ (n : Nat) (x4 : Int32) (u : zM), Go RX3 cX3_looks 7 (none) false 1 0 [] (obT) (zQ rvV) c0 s0 199 [(0, .ref x0), (4, .int x4)] [] [] u (f_X3_looks_L199 x0 n x4 u) := by
  intro n
  induction n with
  | zero => intros; exact go_none
  | succ n ih =>
    intro x4 u
    unfold f_X3_looks_L199
    refine go_iload (pc := 199) (i := 4) dX3_looks_199 rfl ?_
    refine go_aload_n (pc := 201) (j := 0) (i := 0) dX3_looks_201 rfl rfl ?_
    refine go_getI (pc := 202) (n := x0) (ci := 3) (k := 86) fa_X3_504_3 t_x0 rfl dX3_looks_202 ?_
    refine go_icmp_ge (pc := 205) (tgt := 228) dX3_looks_205 (by decide) (fun h8 => ?_) (fun h8 => ?_)
    · exact go_vreturn (pc := 228) rfl dX3_looks_228
    · refine go_aload_n (pc := 208) (j := 0) (i := 0) dX3_looks_208 rfl rfl ?_
      refine go_getR (pc := 209) (n := x0) (ci := 3) (k := 83) (t := 13) fa_X3_246_3 t_x0 rfl dX3_looks_209 fun r9 t_r9 => ?_
      refine go_iload (pc := 212) (i := 4) dX3_looks_212 rfl ?_
      refine go_aload_n (pc := 214) (j := 0) (i := 0) dX3_looks_214 rfl rfl ?_
      refine go_getR (pc := 215) (n := x0) (ci := 3) (k := 82) (t := 13) fa_X3_243_3 t_x0 rfl dX3_looks_215 fun r10 t_r10 => ?_
      refine go_iload (pc := 218) (i := 4) dX3_looks_218 rfl ?_
      refine go_oB fun n9 e_n9 => ?_
      have t_n9 := t_r10 n9 e_n9
      subst e_n9
      refine go_iald (pc := 220) t_n9 dX3_looks_220 ?_
      refine go_oB fun n10 e_n10 => ?_
      have t_n10 := t_r9 n10 e_n10
      subst e_n10
      refine go_iast (pc := 221) t_n10 dX3_looks_221 fun u10 => ?_
      refine go_iinc (pc := 222) (i := 4) (w := 1) (A' := [(0, .ref x0), (4, .int (x4 + 1))]) rfl (by decide) (by decide) rfl rfl rfl dX3_looks_222 ?_
      refine go_goto (pc := 225) (tgt := 199) dX3_looks_225 (by decide) ?_
      exact go_weak (A' := [(0, .ref x0), (4, .int (x4 + 1))]) (B' := []) ⟨rfl, rfl, trivial⟩ rfl (fun q h => by cases h) (ih (x4 + 1) u10)
end
def f_X3_looks (self : Nat) (u : zM) : Option (Unit × zM) := f_X3_looks_L9 self (fun z7 z8 z9 u5 => if z7 < (mI u5 self 88) then (some ((), u5)) else (lt (fun (u6 : zM) => lt (sI u6 self 88 z7) fun u7 => lt (sI u7 self 89 z8) fun u8 => lt (sI u8 self 90 z9) fun u9 => f_X3_looks_L199 self zFu 0 u9) fun j4 => if z7 = (mI u5 self 88) then (if (mI u5 self 89) < z8 then (some ((), u5)) else (if z8 = (mI u5 self 89) then (if z9 < (mI u5 self 90) then (j4 u5) else (some ((), u5))) else (j4 u5))) else (j4 u5))) zFu 0 0 0 0 u
set_option maxHeartbeats 4000000 in
theorem ct_X3_looks (self : Nat) (t_self : kd self = 3) : zMet yX3_looks cX3_looks 7 (none) 1 0 rvV (obT) [.ref self] (f_X3_looks self) := by
  refine zMet_of (A := [(0, .ref self)]) (B := []) (ini := false) RX3 rfl (by decide +kernel) (fun h => by cases h) (by simp [lg_sl, Value.category]) (by simp [lv_args, Value.category]) rfl (by simp [lv_args, Value.category]) fun u => ?_
  unfold f_X3_looks
  refine go_iconst (pc := 0) (v := 0) dX3_looks_0 (by decide) ?_
  refine go_istore_n (pc := 1) (j := 1) (i := 1) (A' := [(0, .ref self), (1, .int 0)]) rfl (by decide) rfl rfl rfl dX3_looks_1 ?_
  refine go_iconst (pc := 2) (v := 0) dX3_looks_2 (by decide) ?_
  refine go_istore_n (pc := 3) (j := 2) (i := 2) (A' := [(0, .ref self), (1, .int 0), (2, .int 0)]) rfl (by decide) rfl rfl rfl dX3_looks_3 ?_
  refine go_iconst (pc := 4) (v := 0) dX3_looks_4 (by decide) ?_
  refine go_istore_n (pc := 5) (j := 3) (i := 3) (A' := [(0, .ref self), (1, .int 0), (2, .int 0), (3, .int 0)]) rfl (by decide) rfl rfl rfl dX3_looks_5 ?_
  refine go_iconst (pc := 6) (v := 0) dX3_looks_6 (by decide) ?_
  refine go_istore (pc := 7) (i := 4) (A' := [(0, .ref self), (1, .int 0), (2, .int 0), (3, .int 0), (4, .int 0)]) (by decide) rfl rfl rfl dX3_looks_7 ?_
  refine go_weak (A' := [(0, .ref self), (1, .int 0), (2, .int 0), (3, .int 0), (4, .int 0)]) (B' := []) ⟨rfl, rfl, rfl, rfl, rfl, trivial⟩ rfl (fun q h => by cases h) (g_X3_looks_L9 self _ t_self ?_ zFu 0 0 0 0 u)
  · intro z7 z8 z9 u5
    refine go_iload_n (pc := 140) (j := 1) (i := 1) dX3_looks_140 rfl rfl ?_
    refine go_aload_n (pc := 141) (j := 0) (i := 0) dX3_looks_141 rfl rfl ?_
    refine go_getI (pc := 142) (n := self) (ci := 3) (k := 88) fa_X3_510_3 t_self rfl dX3_looks_142 ?_
    refine go_icmp_lt (pc := 145) (tgt := 180) dX3_looks_145 (by decide) (fun h7 => ?_) (fun h7 => ?_)
    · exact go_vreturn (pc := 180) rfl dX3_looks_180
    · refine go_iload_n (pc := 148) (j := 1) (i := 1) dX3_looks_148 rfl rfl ?_
      refine go_aload_n (pc := 149) (j := 0) (i := 0) dX3_looks_149 rfl rfl ?_
      refine go_getI (pc := 150) (n := self) (ci := 3) (k := 88) fa_X3_510_3 t_self rfl dX3_looks_150 ?_
      refine go_join0 (pcx := 181) ([(0, .ref self), (1, .int z7), (2, .int z8), (3, .int z9)]) ([]) ([]) (True) (fun u6 _ => ?_) (fun j4 hj4 => ?_)
      · refine go_aload_n (pc := 181) (j := 0) (i := 0) dX3_looks_181 rfl rfl ?_
        refine go_iload_n (pc := 182) (j := 1) (i := 1) dX3_looks_182 rfl rfl ?_
        refine go_putI (pc := 183) (n := self) (ci := 3) (k := 88) (v := z7) pa_X3_510_3 (fun h => by cases h) t_self rfl zKeep_int dX3_looks_183 fun u7 => ?_
        refine go_aload_n (pc := 186) (j := 0) (i := 0) dX3_looks_186 rfl rfl ?_
        refine go_iload_n (pc := 187) (j := 2) (i := 2) dX3_looks_187 rfl rfl ?_
        refine go_putI (pc := 188) (n := self) (ci := 3) (k := 89) (v := z8) pa_X3_513_3 (fun h => by cases h) t_self rfl zKeep_int dX3_looks_188 fun u8 => ?_
        refine go_aload_n (pc := 191) (j := 0) (i := 0) dX3_looks_191 rfl rfl ?_
        refine go_iload_n (pc := 192) (j := 3) (i := 3) dX3_looks_192 rfl rfl ?_
        refine go_putI (pc := 193) (n := self) (ci := 3) (k := 90) (v := z9) pa_X3_516_3 (fun h => by cases h) t_self rfl zKeep_int dX3_looks_193 fun u9 => ?_
        refine go_iconst (pc := 196) (v := 0) dX3_looks_196 (by decide) ?_
        refine go_istore (pc := 197) (i := 4) (A' := [(0, .ref self), (1, .int z7), (2, .int z8), (3, .int z9), (4, .int 0)]) (by decide) rfl rfl rfl dX3_looks_197 ?_
        exact go_weak (A' := [(0, .ref self), (4, .int 0)]) (B' := []) ⟨rfl, rfl, trivial⟩ rfl (fun q h => by cases h) (g_X3_looks_L199 self t_self zFu 0 u9)
      · refine go_icmp_ne (pc := 153) (tgt := 181) dX3_looks_153 (by decide) (fun h9 => ?_) (fun h9 => ?_)
        · refine go_iload_n (pc := 156) (j := 2) (i := 2) dX3_looks_156 rfl rfl ?_
          refine go_aload_n (pc := 157) (j := 0) (i := 0) dX3_looks_157 rfl rfl ?_
          refine go_getI (pc := 158) (n := self) (ci := 3) (k := 89) fa_X3_513_3 t_self rfl dX3_looks_158 ?_
          refine go_icmp_gt (pc := 161) (tgt := 180) dX3_looks_161 (by decide) (fun h10 => ?_) (fun h10 => ?_)
          · exact go_vreturn (pc := 180) rfl dX3_looks_180
          · refine go_iload_n (pc := 164) (j := 2) (i := 2) dX3_looks_164 rfl rfl ?_
            refine go_aload_n (pc := 165) (j := 0) (i := 0) dX3_looks_165 rfl rfl ?_
            refine go_getI (pc := 166) (n := self) (ci := 3) (k := 89) fa_X3_513_3 t_self rfl dX3_looks_166 ?_
            refine go_icmp_ne (pc := 169) (tgt := 181) dX3_looks_169 (by decide) (fun h11 => ?_) (fun h11 => ?_)
            · refine go_iload_n (pc := 172) (j := 3) (i := 3) dX3_looks_172 rfl rfl ?_
              refine go_aload_n (pc := 173) (j := 0) (i := 0) dX3_looks_173 rfl rfl ?_
              refine go_getI (pc := 174) (n := self) (ci := 3) (k := 90) fa_X3_516_3 t_self rfl dX3_looks_174 ?_
              refine go_icmp_lt (pc := 177) (tgt := 181) dX3_looks_177 (by decide) (fun h12 => ?_) (fun h12 => ?_)
              · exact go_weak (A' := [(0, .ref self), (1, .int z7), (2, .int z8), (3, .int z9)]) (B' := []) ⟨rfl, rfl, rfl, rfl, trivial⟩ rfl (fun q h => by cases h) (hj4 u5 trivial)
              · exact go_vreturn (pc := 180) rfl dX3_looks_180
            · exact go_weak (A' := [(0, .ref self), (1, .int z7), (2, .int z8), (3, .int z9)]) (B' := []) ⟨rfl, rfl, rfl, rfl, trivial⟩ rfl (fun q h => by cases h) (hj4 u5 trivial)
        · exact go_weak (A' := [(0, .ref self), (1, .int z7), (2, .int z8), (3, .int z9)]) (B' := []) ⟨rfl, rfl, rfl, rfl, trivial⟩ rfl (fun q h => by cases h) (hj4 u5 trivial)

