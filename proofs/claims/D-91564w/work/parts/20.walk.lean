set_option maxRecDepth 100000
def f_X3_isCloth (self : Nat) (p0 : Int32) (u : zM) : Option (Int32 × zM) := bd (f_X3_in (Int32.toInt64 p0) 0 (Int32.toInt64 ((mI u self 78) - 1)) u) fun v1 u1 => gb v1 (some (v1, u1))
set_option maxHeartbeats 4000000 in
theorem ct_X3_isCloth (self : Nat) (p0 : Int32) (t_self : kd self = 3) : zMet yX3_isCloth cX3_isCloth 2 (some .boolean) 2 25 rvI (obT) [.ref self, .int p0] (f_X3_isCloth self p0) := by
  refine zMet_of (A := [(0, .ref self), (1, .int p0)]) (B := []) (ini := false) RX3 rfl (by decide +kernel) (fun h => by cases h) (by simp [lg_sl, Value.category]) (by simp [lv_args, Value.category]) rfl (by simp [lv_args, Value.category]) fun u => ?_
  unfold f_X3_isCloth
  refine go_iload_n (pc := 0) (j := 1) (i := 1) dX3_isCloth_0 rfl rfl ?_
  refine go_i2l (pc := 1) dX3_isCloth_1 ?_
  refine go_lconst (pc := 2) (v := 0) dX3_isCloth_2 (by decide) ?_
  refine go_aload_n (pc := 3) (j := 0) (i := 0) dX3_isCloth_3 rfl rfl ?_
  refine go_getI (pc := 4) (n := self) (ci := 3) (k := 78) fa_X3_495_3 t_self rfl dX3_isCloth_4 ?_
  refine go_iconst (pc := 7) (v := 1) dX3_isCloth_7 (by decide) ?_
  refine go_isub (pc := 8) dX3_isCloth_8 ?_
  refine go_i2l (pc := 9) dX3_isCloth_9 ?_
  refine go_callSI (pc := 10) (ct_X3_in (Int32.toInt64 p0) 0 (Int32.toInt64 ((mI u self 78) - 1))) lk_X3_274 rfl ⟨by decide, by decide⟩ (Nat.le_of_ble_eq_true rfl) dX3_isCloth_10 rfl fun v1 u1 => ?_
  exact go_zreturn (pc := 13) rfl dX3_isCloth_13

def f_X3_cloth (self : Nat) (p0 : Int32) (p1 : Int32) (u : zM) : Option (Int32 × zM) := bd (f_X3_isCloth self p0 u) fun v1 u1 => if v1 = 0 then (some ((-1), u1)) else (if p1 = 0 then (lt (mR u1 self 72) fun r1 => oB r1 fun n1 => ix p0 (mN u1 n1) (some ((mI u1 n1 (xN p0)), u1))) else (if p1 = 1 then (lt (mR u1 self 73) fun r2 => oB r2 fun n2 => ix p0 (mN u1 n2) (some ((mI u1 n2 (xN p0)), u1))) else (if p1 = 2 then (lt (mR u1 self 74) fun r3 => oB r3 fun n3 => ix p0 (mN u1 n3) (some ((mI u1 n3 (xN p0)), u1))) else (if p1 = 3 then (lt (mR u1 self 75) fun r4 => oB r4 fun n4 => ix p0 (mN u1 n4) (some ((mI u1 n4 (xN p0)), u1))) else (if p1 = 4 then (lt (mR u1 self 77) fun r5 => oB r5 fun n5 => ix p0 (mN u1 n5) (if (mI u1 n5 (xN p0)) = 0 then (some (0, u1)) else (some (1, u1)))) else (if p1 = 5 then (lt (mR u1 self 58) fun r6 => lt (mR u1 self 72) fun r7 => oB r7 fun n6 => ix p0 (mN u1 n6) (oB r6 fun n7 => ix (mI u1 n6 (xN p0)) (mN u1 n7) (some ((mI u1 n7 (xN (mI u1 n6 (xN p0)))), u1)))) else (if p1 = 6 then (lt (mR u1 self 59) fun r8 => lt (mR u1 self 72) fun r9 => oB r9 fun n8 => ix p0 (mN u1 n8) (oB r8 fun n9 => ix (mI u1 n8 (xN p0)) (mN u1 n9) (some ((mI u1 n9 (xN (mI u1 n8 (xN p0)))), u1)))) else (if p1 = 7 then (lt (mR u1 self 76) fun r10 => oB r10 fun n10 => ix p0 (mN u1 n10) (some ((mI u1 n10 (xN p0)), u1))) else (some ((-1), u1))))))))))
set_option maxHeartbeats 4000000 in
theorem ct_X3_cloth (self : Nat) (p0 : Int32) (p1 : Int32) (t_self : kd self = 3) : zMet yX3_cloth cX3_cloth 3 (some .int) 3 46 rvI (obT) [.ref self, .int p0, .int p1] (f_X3_cloth self p0 p1) := by
  refine zMet_of (A := [(0, .ref self), (1, .int p0), (2, .int p1)]) (B := []) (ini := false) RX3 rfl (by decide +kernel) (fun h => by cases h) (by simp [lg_sl, Value.category]) (by simp [lv_args, Value.category]) rfl (by simp [lv_args, Value.category]) fun u => ?_
  unfold f_X3_cloth
  refine go_aload_n (pc := 0) (j := 0) (i := 0) dX3_cloth_0 rfl rfl ?_
  refine go_iload_n (pc := 1) (j := 1) (i := 1) dX3_cloth_1 rfl rfl ?_
  refine go_callVI (pc := 2) (ci := 3) (ct_X3_isCloth self p0 t_self) lk_X3_501 rfl rfl rfl (by decide) t_self ⟨by decide, by decide⟩ (Nat.le_of_ble_eq_true rfl) dX3_cloth_2 rfl fun v1 u1 => ?_
  refine go_if_ne (pc := 5) (tgt := 10) dX3_cloth_5 (by decide) (fun h1 => ?_) (fun h1 => ?_)
  · refine go_iconst (pc := 8) (v := (-1)) dX3_cloth_8 (by decide) ?_
    exact go_ireturn (pc := 9) rfl dX3_cloth_9
  · refine go_iload_n (pc := 10) (j := 2) (i := 2) dX3_cloth_10 rfl rfl ?_
    refine go_if (fun h2 => ?_) (fun h2 => ?_)
    · refine go_tableIn (pc := 11) (tgt := 56) 0 h2 dX3_cloth_11 (by decide) (by decide) rfl (by decide) ?_
      refine go_aload_n (pc := 56) (j := 0) (i := 0) dX3_cloth_56 rfl rfl ?_
      refine go_getR (pc := 57) (n := self) (ci := 3) (k := 72) (t := 13) fa_X3_215_3 t_self rfl dX3_cloth_57 fun r1 t_r1 => ?_
      refine go_iload_n (pc := 60) (j := 1) (i := 1) dX3_cloth_60 rfl rfl ?_
      refine go_oB fun n1 e_n1 => ?_
      have t_n1 := t_r1 n1 e_n1
      subst e_n1
      refine go_iald (pc := 61) t_n1 dX3_cloth_61 ?_
      exact go_ireturn (pc := 62) rfl dX3_cloth_62
    refine go_if (fun h3 => ?_) (fun h3 => ?_)
    · refine go_tableIn (pc := 11) (tgt := 63) 1 h3 dX3_cloth_11 (by decide) (by decide) rfl (by decide) ?_
      refine go_aload_n (pc := 63) (j := 0) (i := 0) dX3_cloth_63 rfl rfl ?_
      refine go_getR (pc := 64) (n := self) (ci := 3) (k := 73) (t := 13) fa_X3_218_3 t_self rfl dX3_cloth_64 fun r2 t_r2 => ?_
      refine go_iload_n (pc := 67) (j := 1) (i := 1) dX3_cloth_67 rfl rfl ?_
      refine go_oB fun n2 e_n2 => ?_
      have t_n2 := t_r2 n2 e_n2
      subst e_n2
      refine go_iald (pc := 68) t_n2 dX3_cloth_68 ?_
      exact go_ireturn (pc := 69) rfl dX3_cloth_69
    refine go_if (fun h4 => ?_) (fun h4 => ?_)
    · refine go_tableIn (pc := 11) (tgt := 70) 2 h4 dX3_cloth_11 (by decide) (by decide) rfl (by decide) ?_
      refine go_aload_n (pc := 70) (j := 0) (i := 0) dX3_cloth_70 rfl rfl ?_
      refine go_getR (pc := 71) (n := self) (ci := 3) (k := 74) (t := 13) fa_X3_221_3 t_self rfl dX3_cloth_71 fun r3 t_r3 => ?_
      refine go_iload_n (pc := 74) (j := 1) (i := 1) dX3_cloth_74 rfl rfl ?_
      refine go_oB fun n3 e_n3 => ?_
      have t_n3 := t_r3 n3 e_n3
      subst e_n3
      refine go_iald (pc := 75) t_n3 dX3_cloth_75 ?_
      exact go_ireturn (pc := 76) rfl dX3_cloth_76
    refine go_if (fun h5 => ?_) (fun h5 => ?_)
    · refine go_tableIn (pc := 11) (tgt := 77) 3 h5 dX3_cloth_11 (by decide) (by decide) rfl (by decide) ?_
      refine go_aload_n (pc := 77) (j := 0) (i := 0) dX3_cloth_77 rfl rfl ?_
      refine go_getR (pc := 78) (n := self) (ci := 3) (k := 75) (t := 13) fa_X3_224_3 t_self rfl dX3_cloth_78 fun r4 t_r4 => ?_
      refine go_iload_n (pc := 81) (j := 1) (i := 1) dX3_cloth_81 rfl rfl ?_
      refine go_oB fun n4 e_n4 => ?_
      have t_n4 := t_r4 n4 e_n4
      subst e_n4
      refine go_iald (pc := 82) t_n4 dX3_cloth_82 ?_
      exact go_ireturn (pc := 83) rfl dX3_cloth_83
    refine go_if (fun h6 => ?_) (fun h6 => ?_)
    · refine go_tableIn (pc := 11) (tgt := 84) 4 h6 dX3_cloth_11 (by decide) (by decide) rfl (by decide) ?_
      refine go_aload_n (pc := 84) (j := 0) (i := 0) dX3_cloth_84 rfl rfl ?_
      refine go_getR (pc := 85) (n := self) (ci := 3) (k := 77) (t := 15) fa_X3_230_3 t_self rfl dX3_cloth_85 fun r5 t_r5 => ?_
      refine go_iload_n (pc := 88) (j := 1) (i := 1) dX3_cloth_88 rfl rfl ?_
      refine go_oB fun n5 e_n5 => ?_
      have t_n5 := t_r5 n5 e_n5
      subst e_n5
      refine go_zald (pc := 89) t_n5 dX3_cloth_89 ?_
      refine go_if_eq (pc := 90) (tgt := 97) dX3_cloth_90 (by decide) (fun h7 => ?_) (fun h7 => ?_)
      · refine go_iconst (pc := 97) (v := 0) dX3_cloth_97 (by decide) ?_
        exact go_ireturn (pc := 98) rfl dX3_cloth_98
      · refine go_iconst (pc := 93) (v := 1) dX3_cloth_93 (by decide) ?_
        refine go_goto (pc := 94) (tgt := 98) dX3_cloth_94 (by decide) ?_
        exact go_ireturn (pc := 98) rfl dX3_cloth_98
    refine go_if (fun h8 => ?_) (fun h8 => ?_)
    · refine go_tableIn (pc := 11) (tgt := 99) 5 h8 dX3_cloth_11 (by decide) (by decide) rfl (by decide) ?_
      refine go_aload_n (pc := 99) (j := 0) (i := 0) dX3_cloth_99 rfl rfl ?_
      refine go_getR (pc := 100) (n := self) (ci := 3) (k := 58) (t := 13) fa_X3_185_3 t_self rfl dX3_cloth_100 fun r6 t_r6 => ?_
      refine go_aload_n (pc := 103) (j := 0) (i := 0) dX3_cloth_103 rfl rfl ?_
      refine go_getR (pc := 104) (n := self) (ci := 3) (k := 72) (t := 13) fa_X3_215_3 t_self rfl dX3_cloth_104 fun r7 t_r7 => ?_
      refine go_iload_n (pc := 107) (j := 1) (i := 1) dX3_cloth_107 rfl rfl ?_
      refine go_oB fun n6 e_n6 => ?_
      have t_n6 := t_r7 n6 e_n6
      subst e_n6
      refine go_iald (pc := 108) t_n6 dX3_cloth_108 ?_
      refine go_oB fun n7 e_n7 => ?_
      have t_n7 := t_r6 n7 e_n7
      subst e_n7
      refine go_iald (pc := 109) t_n7 dX3_cloth_109 ?_
      exact go_ireturn (pc := 110) rfl dX3_cloth_110
    refine go_if (fun h9 => ?_) (fun h9 => ?_)
    · refine go_tableIn (pc := 11) (tgt := 111) 6 h9 dX3_cloth_11 (by decide) (by decide) rfl (by decide) ?_
      refine go_aload_n (pc := 111) (j := 0) (i := 0) dX3_cloth_111 rfl rfl ?_
      refine go_getR (pc := 112) (n := self) (ci := 3) (k := 59) (t := 13) fa_X3_188_3 t_self rfl dX3_cloth_112 fun r8 t_r8 => ?_
      refine go_aload_n (pc := 115) (j := 0) (i := 0) dX3_cloth_115 rfl rfl ?_
      refine go_getR (pc := 116) (n := self) (ci := 3) (k := 72) (t := 13) fa_X3_215_3 t_self rfl dX3_cloth_116 fun r9 t_r9 => ?_
      refine go_iload_n (pc := 119) (j := 1) (i := 1) dX3_cloth_119 rfl rfl ?_
      refine go_oB fun n8 e_n8 => ?_
      have t_n8 := t_r9 n8 e_n8
      subst e_n8
      refine go_iald (pc := 120) t_n8 dX3_cloth_120 ?_
      refine go_oB fun n9 e_n9 => ?_
      have t_n9 := t_r8 n9 e_n9
      subst e_n9
      refine go_iald (pc := 121) t_n9 dX3_cloth_121 ?_
      exact go_ireturn (pc := 122) rfl dX3_cloth_122
    refine go_if (fun h10 => ?_) (fun h10 => ?_)
    · refine go_tableIn (pc := 11) (tgt := 123) 7 h10 dX3_cloth_11 (by decide) (by decide) rfl (by decide) ?_
      refine go_aload_n (pc := 123) (j := 0) (i := 0) dX3_cloth_123 rfl rfl ?_
      refine go_getR (pc := 124) (n := self) (ci := 3) (k := 76) (t := 13) fa_X3_227_3 t_self rfl dX3_cloth_124 fun r10 t_r10 => ?_
      refine go_iload_n (pc := 127) (j := 1) (i := 1) dX3_cloth_127 rfl rfl ?_
      refine go_oB fun n10 e_n10 => ?_
      have t_n10 := t_r10 n10 e_n10
      subst e_n10
      refine go_iald (pc := 128) t_n10 dX3_cloth_128 ?_
      exact go_ireturn (pc := 129) rfl dX3_cloth_129
    refine go_tableD (pc := 11) (x := p1) (tgt := 130) dX3_cloth_11 (by decide) (fun a b => ?_) ?_
    · rcases (show Int32.toInt p1 = 0 ∨ Int32.toInt p1 = 1 ∨ Int32.toInt p1 = 2 ∨ Int32.toInt p1 = 3 ∨ Int32.toInt p1 = 4 ∨ Int32.toInt p1 = 5 ∨ Int32.toInt p1 = 6 ∨ Int32.toInt p1 = 7 by omega) with e | e | e | e | e | e | e | e
      · exact absurd (sw_eq (v := 0) (e.trans (by decide))) h2
      · exact absurd (sw_eq (v := 1) (e.trans (by decide))) h3
      · exact absurd (sw_eq (v := 2) (e.trans (by decide))) h4
      · exact absurd (sw_eq (v := 3) (e.trans (by decide))) h5
      · exact absurd (sw_eq (v := 4) (e.trans (by decide))) h6
      · exact absurd (sw_eq (v := 5) (e.trans (by decide))) h8
      · exact absurd (sw_eq (v := 6) (e.trans (by decide))) h9
      · exact absurd (sw_eq (v := 7) (e.trans (by decide))) h10
    · refine go_iconst (pc := 130) (v := (-1)) dX3_cloth_130 (by decide) ?_
      exact go_ireturn (pc := 131) rfl dX3_cloth_131

def f_X3_ask_L21 (x0 : Nat) (x1 : Int32) (k47 : zM → Option (Int32 × zM)) : Nat → Int32 → zM → Option (Int32 × zM)
  | 0, _, _ => none
  | n + 1, x2, u => if (mI u x0 86) ≤ x2 then (k47 u) else (lt (mR u x0 79) fun r1 => oB r1 fun n1 => ix x2 (mN u n1) (if (mI u n1 (xN x2)) = x1 then (some ((-1), u)) else (f_X3_ask_L21 x0 x1 k47 n (x2 + 1) u)))
section
variable {c0 s0 : Nat} {tbv : List ExceptionTableEntry}
set_option maxHeartbeats 4000000 in
theorem g_X3_ask_L21 (x0 : Nat) (x1 : Int32) (k47 : zM → Option (Int32 × zM)) (t_x0 : kd x0 = 3) (hk47 : ∀ (u : zM), Go RX3 cX3_ask 3 (some .int) false 3 46 [] (obT) (zQ rvI) c0 s0 47 [(0, .ref x0), (1, .int x1)] [] [] u (k47 u)) : ∀ (n : Nat) (x2 : Int32) (u : zM), Go RX3 cX3_ask 3 (some .int) false 3 46 [] (obT) (zQ rvI) c0 s0 21 [(0, .ref x0), (1, .int x1), (2, .int x2)] [] [] u (f_X3_ask_L21 x0 x1 k47 n x2 u) := by
  intro n
  induction n with
  | zero => intros; exact go_none
  | succ n ih =>
    intro x2 u
    unfold f_X3_ask_L21
    refine go_iload_n (pc := 21) (j := 2) (i := 2) dX3_ask_21 rfl rfl ?_
    refine go_aload_n (pc := 22) (j := 0) (i := 0) dX3_ask_22 rfl rfl ?_
    refine go_getI (pc := 23) (n := x0) (ci := 3) (k := 86) fa_X3_504_3 t_x0 rfl dX3_ask_23 ?_
    refine go_icmp_ge (pc := 26) (tgt := 47) dX3_ask_26 (by decide) (fun h3 => ?_) (fun h3 => ?_)
    · exact go_weak (A' := [(0, .ref x0), (1, .int x1)]) (B' := []) ⟨rfl, rfl, trivial⟩ rfl (fun q h => by cases h) (hk47 u)
    · refine go_aload_n (pc := 29) (j := 0) (i := 0) dX3_ask_29 rfl rfl ?_
      refine go_getR (pc := 30) (n := x0) (ci := 3) (k := 79) (t := 13) fa_X3_234_3 t_x0 rfl dX3_ask_30 fun r1 t_r1 => ?_
      refine go_iload_n (pc := 33) (j := 2) (i := 2) dX3_ask_33 rfl rfl ?_
      refine go_oB fun n1 e_n1 => ?_
      have t_n1 := t_r1 n1 e_n1
      subst e_n1
      refine go_iald (pc := 34) t_n1 dX3_ask_34 ?_
      refine go_iload_n (pc := 35) (j := 1) (i := 1) dX3_ask_35 rfl rfl ?_
      refine go_icmp_ne (pc := 36) (tgt := 41) dX3_ask_36 (by decide) (fun h4 => ?_) (fun h4 => ?_)
      · refine go_iconst (pc := 39) (v := (-1)) dX3_ask_39 (by decide) ?_
        exact go_ireturn (pc := 40) rfl dX3_ask_40
      · refine go_iinc (pc := 41) (i := 2) (w := 1) (A' := [(0, .ref x0), (1, .int x1), (2, .int (x2 + 1))]) rfl (by decide) (by decide) rfl rfl rfl dX3_ask_41 ?_
        refine go_goto (pc := 44) (tgt := 21) dX3_ask_44 (by decide) ?_
        exact go_weak (A' := [(0, .ref x0), (1, .int x1), (2, .int (x2 + 1))]) (B' := []) ⟨rfl, rfl, rfl, trivial⟩ rfl (fun q h => by cases h) (ih (x2 + 1) u)
end
def f_X3_ask (self : Nat) (p0 : Int32) (u : zM) : Option (Int32 × zM) := bd (f_X3_isLot self p0 u) fun v1 u1 => if v1 = 0 then (some ((-1), u1)) else (if (mI u1 self 86) = 6 then (some ((-1), u1)) else (f_X3_ask_L21 self p0 (fun u2 => lt (mR u2 self 79) fun r2 => oB r2 fun n2 => ix (mI u2 self 86) (mN u2 n2) (lt (sI u2 n2 (xN (mI u2 self 86)) p0) fun u3 => lt (sI u3 self 86 ((mI u3 self 86) + 1)) fun u4 => some ((mI u4 self 86), u4))) zFu 0 u1))
set_option maxHeartbeats 4000000 in
theorem ct_X3_ask (self : Nat) (p0 : Int32) (t_self : kd self = 3) : zMet yX3_ask cX3_ask 3 (some .int) 3 46 rvI (obT) [.ref self, .int p0] (f_X3_ask self p0) := by
  refine zMet_of (A := [(0, .ref self), (1, .int p0)]) (B := []) (ini := false) RX3 rfl (by decide +kernel) (fun h => by cases h) (by simp [lg_sl, Value.category]) (by simp [lv_args, Value.category]) rfl (by simp [lv_args, Value.category]) fun u => ?_
  unfold f_X3_ask
  refine go_aload_n (pc := 0) (j := 0) (i := 0) dX3_ask_0 rfl rfl ?_
  refine go_iload_n (pc := 1) (j := 1) (i := 1) dX3_ask_1 rfl rfl ?_
  refine go_callVI (pc := 2) (ci := 3) (ct_X3_isLot self p0 t_self) lk_X3_466 rfl rfl rfl (by decide) t_self ⟨by decide, by decide⟩ (Nat.le_of_ble_eq_true rfl) dX3_ask_2 rfl fun v1 u1 => ?_
  refine go_if_eq (pc := 5) (tgt := 17) dX3_ask_5 (by decide) (fun h1 => ?_) (fun h1 => ?_)
  · refine go_iconst (pc := 17) (v := (-1)) dX3_ask_17 (by decide) ?_
    exact go_ireturn (pc := 18) rfl dX3_ask_18
  · refine go_aload_n (pc := 8) (j := 0) (i := 0) dX3_ask_8 rfl rfl ?_
    refine go_getI (pc := 9) (n := self) (ci := 3) (k := 86) fa_X3_504_3 t_self rfl dX3_ask_9 ?_
    refine go_bipush (pc := 12) (v := 6) dX3_ask_12 (by decide) ?_
    refine go_icmp_ne (pc := 14) (tgt := 19) dX3_ask_14 (by decide) (fun h2 => ?_) (fun h2 => ?_)
    · refine go_iconst (pc := 17) (v := (-1)) dX3_ask_17 (by decide) ?_
      exact go_ireturn (pc := 18) rfl dX3_ask_18
    · refine go_iconst (pc := 19) (v := 0) dX3_ask_19 (by decide) ?_
      refine go_istore_n (pc := 20) (j := 2) (i := 2) (A' := [(0, .ref self), (1, .int p0), (2, .int 0)]) rfl (by decide) rfl rfl rfl dX3_ask_20 ?_
      refine go_weak (A' := [(0, .ref self), (1, .int p0), (2, .int 0)]) (B' := []) ⟨rfl, rfl, rfl, trivial⟩ rfl (fun q h => by cases h) (g_X3_ask_L21 self p0 _ t_self ?_ zFu 0 u1)
      · intro u2
        refine go_aload_n (pc := 47) (j := 0) (i := 0) dX3_ask_47 rfl rfl ?_
        refine go_getR (pc := 48) (n := self) (ci := 3) (k := 79) (t := 13) fa_X3_234_3 t_self rfl dX3_ask_48 fun r2 t_r2 => ?_
        refine go_aload_n (pc := 51) (j := 0) (i := 0) dX3_ask_51 rfl rfl ?_
        refine go_getI (pc := 52) (n := self) (ci := 3) (k := 86) fa_X3_504_3 t_self rfl dX3_ask_52 ?_
        refine go_iload_n (pc := 55) (j := 1) (i := 1) dX3_ask_55 rfl rfl ?_
        refine go_oB fun n2 e_n2 => ?_
        have t_n2 := t_r2 n2 e_n2
        subst e_n2
        refine go_iast (pc := 56) t_n2 dX3_ask_56 fun u3 => ?_
        refine go_aload_n (pc := 57) (j := 0) (i := 0) dX3_ask_57 rfl rfl ?_
        refine go_dupA (pc := 58) dX3_ask_58 ?_
        refine go_getI (pc := 59) (n := self) (ci := 3) (k := 86) fa_X3_504_3 t_self rfl dX3_ask_59 ?_
        refine go_iconst (pc := 62) (v := 1) dX3_ask_62 (by decide) ?_
        refine go_iadd (pc := 63) dX3_ask_63 ?_
        refine go_putI (pc := 64) (n := self) (ci := 3) (k := 86) (v := ((mI u3 self 86) + 1)) pa_X3_504_3 (fun h => by cases h) t_self rfl zKeep_int dX3_ask_64 fun u4 => ?_
        refine go_aload_n (pc := 67) (j := 0) (i := 0) dX3_ask_67 rfl rfl ?_
        refine go_getI (pc := 68) (n := self) (ci := 3) (k := 86) fa_X3_504_3 t_self rfl dX3_ask_68 ?_
        exact go_ireturn (pc := 71) rfl dX3_ask_71

def f_X3_clear (self : Nat) (u : zM) : Option (Int32 × zM) := lt (sI u self 86 0) fun u1 => some ((mI u self 86), u1)
set_option maxHeartbeats 4000000 in
theorem ct_X3_clear (self : Nat) (t_self : kd self = 3) : zMet yX3_clear cX3_clear 2 (some .int) 1 0 rvI (obT) [.ref self] (f_X3_clear self) := by
  refine zMet_of (A := [(0, .ref self)]) (B := []) (ini := false) RX3 rfl (by decide +kernel) (fun h => by cases h) (by simp [lg_sl, Value.category]) (by simp [lv_args, Value.category]) rfl (by simp [lv_args, Value.category]) fun u => ?_
  unfold f_X3_clear
  refine go_aload_n (pc := 0) (j := 0) (i := 0) dX3_clear_0 rfl rfl ?_
  refine go_getI (pc := 1) (n := self) (ci := 3) (k := 86) fa_X3_504_3 t_self rfl dX3_clear_1 ?_
  refine go_istore_n (pc := 4) (j := 1) (i := 1) (A' := [(0, .ref self), (1, .int (mI u self 86))]) rfl (by decide) rfl rfl rfl dX3_clear_4 ?_
  refine go_aload_n (pc := 5) (j := 0) (i := 0) dX3_clear_5 rfl rfl ?_
  refine go_iconst (pc := 6) (v := 0) dX3_clear_6 (by decide) ?_
  refine go_putI (pc := 7) (n := self) (ci := 3) (k := 86) (v := 0) pa_X3_504_3 (fun h => by cases h) t_self rfl zKeep_int dX3_clear_7 fun u1 => ?_
  refine go_iload_n (pc := 10) (j := 1) (i := 1) dX3_clear_10 rfl rfl ?_
  exact go_ireturn (pc := 11) rfl dX3_clear_11

def f_X3_handsFor_L34 (x0 : Nat) (x1 : Int32) (k90 : zM → Option (Int32 × zM)) : Nat → Int32 → zM → Option (Int32 × zM)
  | 0, _, _ => none
  | n + 1, x2, u => if (mI u x0 2) ≤ x2 then (k90 u) else (lt (fun (u3 : zM) => f_X3_handsFor_L34 x0 x1 k90 n (x2 + 1) u3) fun j1 => if ((x1 >>> (x2 &&& 31)) &&& 1) = 0 then (j1 u) else (if (mI u x0 87) = 6 then (gb 0 (some (0, u))) else (lt (mR u x0 81) fun r1 => oB r1 fun n1 => ix (mI u x0 87) (mN u n1) (lt (sI u n1 (xN (mI u x0 87)) x2) fun u4 => lt (sI u4 x0 87 ((mI u4 x0 87) + 1)) fun u5 => j1 u5))))
section
variable {c0 s0 : Nat} {tbv : List ExceptionTableEntry}
set_option maxHeartbeats 4000000 in
theorem g_X3_handsFor_L34 (x0 : Nat) (x1 : Int32) (k90 : zM → Option (Int32 × zM)) (t_x0 : kd x0 = 3) (hk90 : ∀ (u : zM), Go RX3 cX3_handsFor 4 (some .boolean) false 17 230 [] (obT) (zQ rvI) c0 s0 90 [(0, .ref x0)] [] [] u (k90 u)) : ∀ (n : Nat) (x2 : Int32) (u : zM), Go RX3 cX3_handsFor 4 (some .boolean) false 17 230 [] (obT) (zQ rvI) c0 s0 34 [(0, .ref x0), (1, .int x1), (2, .int x2)] [] [] u (f_X3_handsFor_L34 x0 x1 k90 n x2 u) := by
  intro n
  induction n with
  | zero => intros; exact go_none
  | succ n ih =>
    intro x2 u
    unfold f_X3_handsFor_L34
    refine go_iload_n (pc := 34) (j := 2) (i := 2) dX3_handsFor_34 rfl rfl ?_
    refine go_aload_n (pc := 35) (j := 0) (i := 0) dX3_handsFor_35 rfl rfl ?_
    refine go_getI (pc := 36) (n := x0) (ci := 3) (k := 2) fa_X3_278_3 t_x0 rfl dX3_handsFor_36 ?_
    refine go_icmp_ge (pc := 39) (tgt := 90) dX3_handsFor_39 (by decide) (fun h3 => ?_) (fun h3 => ?_)
    · exact go_weak (A' := [(0, .ref x0)]) (B' := []) ⟨rfl, trivial⟩ rfl (fun q h => by cases h) (hk90 u)
    · refine go_iload_n (pc := 42) (j := 1) (i := 1) dX3_handsFor_42 rfl rfl ?_
      refine go_iload_n (pc := 43) (j := 2) (i := 2) dX3_handsFor_43 rfl rfl ?_
      refine go_ishr (pc := 44) dX3_handsFor_44 ?_
      refine go_iconst (pc := 45) (v := 1) dX3_handsFor_45 (by decide) ?_
      refine go_iand (pc := 46) dX3_handsFor_46 ?_
      refine go_join0 (pcx := 84) ([(0, .ref x0), (1, .int x1), (2, .int x2)]) ([]) ([]) (True) (fun u3 _ => ?_) (fun j1 hj1 => ?_)
      · refine go_iinc (pc := 84) (i := 2) (w := 1) (A' := [(0, .ref x0), (1, .int x1), (2, .int (x2 + 1))]) rfl (by decide) (by decide) rfl rfl rfl dX3_handsFor_84 ?_
        refine go_goto (pc := 87) (tgt := 34) dX3_handsFor_87 (by decide) ?_
        exact go_weak (A' := [(0, .ref x0), (1, .int x1), (2, .int (x2 + 1))]) (B' := []) ⟨rfl, rfl, rfl, trivial⟩ rfl (fun q h => by cases h) (ih (x2 + 1) u3)
      · refine go_if_ne (pc := 47) (tgt := 53) dX3_handsFor_47 (by decide) (fun h4 => ?_) (fun h4 => ?_)
        · refine go_goto (pc := 50) (tgt := 84) dX3_handsFor_50 (by decide) ?_
          exact go_weak (A' := [(0, .ref x0), (1, .int x1), (2, .int x2)]) (B' := []) ⟨rfl, rfl, rfl, trivial⟩ rfl (fun q h => by cases h) (hj1 u trivial)
        · refine go_aload_n (pc := 53) (j := 0) (i := 0) dX3_handsFor_53 rfl rfl ?_
          refine go_getI (pc := 54) (n := x0) (ci := 3) (k := 87) fa_X3_507_3 t_x0 rfl dX3_handsFor_54 ?_
          refine go_bipush (pc := 57) (v := 6) dX3_handsFor_57 (by decide) ?_
          refine go_icmp_ne (pc := 59) (tgt := 64) dX3_handsFor_59 (by decide) (fun h5 => ?_) (fun h5 => ?_)
          · refine go_iconst (pc := 62) (v := 0) dX3_handsFor_62 (by decide) ?_
            exact go_zreturn (pc := 63) rfl dX3_handsFor_63
          · refine go_aload_n (pc := 64) (j := 0) (i := 0) dX3_handsFor_64 rfl rfl ?_
            refine go_getR (pc := 65) (n := x0) (ci := 3) (k := 81) (t := 13) fa_X3_240_3 t_x0 rfl dX3_handsFor_65 fun r1 t_r1 => ?_
            refine go_aload_n (pc := 68) (j := 0) (i := 0) dX3_handsFor_68 rfl rfl ?_
            refine go_getI (pc := 69) (n := x0) (ci := 3) (k := 87) fa_X3_507_3 t_x0 rfl dX3_handsFor_69 ?_
            refine go_iload_n (pc := 72) (j := 2) (i := 2) dX3_handsFor_72 rfl rfl ?_
            refine go_oB fun n1 e_n1 => ?_
            have t_n1 := t_r1 n1 e_n1
            subst e_n1
            refine go_iast (pc := 73) t_n1 dX3_handsFor_73 fun u4 => ?_
            refine go_aload_n (pc := 74) (j := 0) (i := 0) dX3_handsFor_74 rfl rfl ?_
            refine go_dupA (pc := 75) dX3_handsFor_75 ?_
            refine go_getI (pc := 76) (n := x0) (ci := 3) (k := 87) fa_X3_507_3 t_x0 rfl dX3_handsFor_76 ?_
            refine go_iconst (pc := 79) (v := 1) dX3_handsFor_79 (by decide) ?_
            refine go_iadd (pc := 80) dX3_handsFor_80 ?_
            refine go_putI (pc := 81) (n := x0) (ci := 3) (k := 87) (v := ((mI u4 x0 87) + 1)) pa_X3_507_3 (fun h => by cases h) t_x0 rfl zKeep_int dX3_handsFor_81 fun u5 => ?_
            exact go_weak (A' := [(0, .ref x0), (1, .int x1), (2, .int x2)]) (B' := []) ⟨rfl, rfl, rfl, trivial⟩ rfl (fun q h => by cases h) (hj1 u5 trivial)
end
def f_X3_handsFor_L133 (x0 : Nat) (x2 : Int32) (k234 : zM → Option (Int32 × zM)) : Nat → Int32 → zM → Option (Int32 × zM)
  | 0, _, _ => none
  | n + 1, x3, u => if (mI u x0 87) ≤ x3 then (k234 u) else (lt (mR u x0 84) fun r7 => oB r7 fun n7 => ix x2 (mN u n7) (lt (mR u n7 (xN x2)) fun r8 => lt (mR u x0 80) fun r9 => oB r9 fun n8 => ix x2 (mN u n8) (lt (fun (z1 : Int32) (u10 : zM) => oB r8 fun n9 => ix x3 (mN u10 n9) (lt (sI u10 n9 (xN x3) (z1 &&& 1)) fun u11 => lt (mR u11 x0 85) fun r10 => oB r10 fun n10 => ix x2 (mN u11 n10) (lt (mR u11 n10 (xN x2)) fun r11 => lt (mR u11 x0 20) fun r12 => lt (mR u11 x0 58) fun r13 => lt (mR u11 x0 79) fun r14 => oB r14 fun n11 => ix x2 (mN u11 n11) (oB r13 fun n12 => ix (mI u11 n11 (xN x2)) (mN u11 n12) (oB r12 fun n13 => ix (mI u11 n12 (xN (mI u11 n11 (xN x2)))) (mN u11 n13) (lt (mR u11 x0 20) fun r15 => lt (mR u11 x0 81) fun r16 => oB r16 fun n14 => ix x3 (mN u11 n14) (oB r15 fun n15 => ix (mI u11 n14 (xN x3)) (mN u11 n15) (bd (f_X3_farOf x0 (mI u11 n13 (xN (mI u11 n12 (xN (mI u11 n11 (xN x2)))))) (mI u11 n15 (xN (mI u11 n14 (xN x3)))) u11) fun v3 u12 => oB r11 fun n16 => ix x3 (mN u12 n16) (lt (sI u12 n16 (xN x3) v3) fun u13 => f_X3_handsFor_L133 x0 x2 k234 n (x3 + 1) u13))))))))) fun j2 => lt (fun (u14 : zM) => j2 0 u14) fun j3 => if (mI u n8 (xN x2)) < 2 then (j3 u) else (lt (mR u x0 81) fun r17 => oB r17 fun n17 => ix x3 (mN u n17) (lt (mR u x0 79) fun r18 => oB r18 fun n18 => ix x2 (mN u n18) (lt (mR u x0 80) fun r19 => oB r19 fun n19 => ix x2 (mN u n19) (bd (f_X3_barOf x0 (mI u n17 (xN x3)) (mI u n18 (xN x2)) (mI u n19 (xN x2)) u) fun v4 u15 => if v4 = 0 then (j2 1 u15) else (j3 u15))))))))
section
variable {c0 s0 : Nat} {tbv : List ExceptionTableEntry}
set_option maxHeartbeats 4000000 in
theorem g_X3_handsFor_L133 (x0 : Nat) (x2 : Int32) (k234 : zM → Option (Int32 × zM)) (t_x0 : kd x0 = 3) (hk234 : ∀ (u : zM), Go RX3 cX3_handsFor 4 (some .boolean) false 17 230 [] (obT) (zQ rvI) c0 s0 234 [(0, .ref x0), (2, .int x2)] [] [] u (k234 u)) : ∀ (n : Nat) (x3 : Int32) (u : zM), Go RX3 cX3_handsFor 4 (some .boolean) false 17 230 [] (obT) (zQ rvI) c0 s0 133 [(0, .ref x0), (2, .int x2), (3, .int x3)] [] [] u (f_X3_handsFor_L133 x0 x2 k234 n x3 u) := by
  intro n
  induction n with
  | zero => intros; exact go_none
  | succ n ih =>
    intro x3 u
    unfold f_X3_handsFor_L133
    refine go_iload_n (pc := 133) (j := 3) (i := 3) dX3_handsFor_133 rfl rfl ?_
    refine go_aload_n (pc := 134) (j := 0) (i := 0) dX3_handsFor_134 rfl rfl ?_
    refine go_getI (pc := 135) (n := x0) (ci := 3) (k := 87) fa_X3_507_3 t_x0 rfl dX3_handsFor_135 ?_
    refine go_icmp_ge (pc := 138) (tgt := 234) dX3_handsFor_138 (by decide) (fun h7 => ?_) (fun h7 => ?_)
    · exact go_weak (A' := [(0, .ref x0), (2, .int x2)]) (B' := []) ⟨rfl, rfl, trivial⟩ rfl (fun q h => by cases h) (hk234 u)
    · refine go_aload_n (pc := 141) (j := 0) (i := 0) dX3_handsFor_141 rfl rfl ?_
      refine go_getR (pc := 142) (n := x0) (ci := 3) (k := 84) (t := 25) fa_X3_251_3 t_x0 rfl dX3_handsFor_142 fun r7 t_r7 => ?_
      refine go_iload_n (pc := 145) (j := 2) (i := 2) dX3_handsFor_145 rfl rfl ?_
      refine go_oB fun n7 e_n7 => ?_
      have t_n7 := t_r7 n7 e_n7
      subst e_n7
      refine go_aald (pc := 146) (n := n7) (ci := 25) (t := 15) (by decide) (by decide) t_n7 rfl dX3_handsFor_146 fun r8 t_r8 => ?_
      refine go_iload_n (pc := 147) (j := 3) (i := 3) dX3_handsFor_147 rfl rfl ?_
      refine go_aload_n (pc := 148) (j := 0) (i := 0) dX3_handsFor_148 rfl rfl ?_
      refine go_getR (pc := 149) (n := x0) (ci := 3) (k := 80) (t := 13) fa_X3_237_3 t_x0 rfl dX3_handsFor_149 fun r9 t_r9 => ?_
      refine go_iload_n (pc := 152) (j := 2) (i := 2) dX3_handsFor_152 rfl rfl ?_
      refine go_oB fun n8 e_n8 => ?_
      have t_n8 := t_r9 n8 e_n8
      subst e_n8
      refine go_iald (pc := 153) t_n8 dX3_handsFor_153 ?_
      refine go_iconst (pc := 154) (v := 2) dX3_handsFor_154 (by decide) ?_
      refine go_join1 (pcx := 188) (α1 := Int32) (fun z1 => [(0, .ref x0), (2, .int x2), (3, .int x3)]) (fun z1 => []) (fun z1 => [.int z1, .int x3, va_rf r8]) (fun z1 => True) (fun z1 u10 _ => ?_) (fun j2 hj2 => ?_)
      · refine go_oB fun n9 e_n9 => ?_
        have t_n9 := t_r8 n9 e_n9
        subst e_n9
        refine go_zast (pc := 188) t_n9 dX3_handsFor_188 fun u11 => ?_
        refine go_aload_n (pc := 189) (j := 0) (i := 0) dX3_handsFor_189 rfl rfl ?_
        refine go_getR (pc := 190) (n := x0) (ci := 3) (k := 85) (t := 23) fa_X3_253_3 t_x0 rfl dX3_handsFor_190 fun r10 t_r10 => ?_
        refine go_iload_n (pc := 193) (j := 2) (i := 2) dX3_handsFor_193 rfl rfl ?_
        refine go_oB fun n10 e_n10 => ?_
        have t_n10 := t_r10 n10 e_n10
        subst e_n10
        refine go_aald (pc := 194) (n := n10) (ci := 23) (t := 13) (by decide) (by decide) t_n10 rfl dX3_handsFor_194 fun r11 t_r11 => ?_
        refine go_iload_n (pc := 195) (j := 3) (i := 3) dX3_handsFor_195 rfl rfl ?_
        refine go_aload_n (pc := 196) (j := 0) (i := 0) dX3_handsFor_196 rfl rfl ?_
        refine go_aload_n (pc := 197) (j := 0) (i := 0) dX3_handsFor_197 rfl rfl ?_
        refine go_getR (pc := 198) (n := x0) (ci := 3) (k := 20) (t := 13) fa_X3_63_3 t_x0 rfl dX3_handsFor_198 fun r12 t_r12 => ?_
        refine go_aload_n (pc := 201) (j := 0) (i := 0) dX3_handsFor_201 rfl rfl ?_
        refine go_getR (pc := 202) (n := x0) (ci := 3) (k := 58) (t := 13) fa_X3_185_3 t_x0 rfl dX3_handsFor_202 fun r13 t_r13 => ?_
        refine go_aload_n (pc := 205) (j := 0) (i := 0) dX3_handsFor_205 rfl rfl ?_
        refine go_getR (pc := 206) (n := x0) (ci := 3) (k := 79) (t := 13) fa_X3_234_3 t_x0 rfl dX3_handsFor_206 fun r14 t_r14 => ?_
        refine go_iload_n (pc := 209) (j := 2) (i := 2) dX3_handsFor_209 rfl rfl ?_
        refine go_oB fun n11 e_n11 => ?_
        have t_n11 := t_r14 n11 e_n11
        subst e_n11
        refine go_iald (pc := 210) t_n11 dX3_handsFor_210 ?_
        refine go_oB fun n12 e_n12 => ?_
        have t_n12 := t_r13 n12 e_n12
        subst e_n12
        refine go_iald (pc := 211) t_n12 dX3_handsFor_211 ?_
        refine go_oB fun n13 e_n13 => ?_
        have t_n13 := t_r12 n13 e_n13
        subst e_n13
        refine go_iald (pc := 212) t_n13 dX3_handsFor_212 ?_
        refine go_aload_n (pc := 213) (j := 0) (i := 0) dX3_handsFor_213 rfl rfl ?_
        refine go_getR (pc := 214) (n := x0) (ci := 3) (k := 20) (t := 13) fa_X3_63_3 t_x0 rfl dX3_handsFor_214 fun r15 t_r15 => ?_
        refine go_aload_n (pc := 217) (j := 0) (i := 0) dX3_handsFor_217 rfl rfl ?_
        refine go_getR (pc := 218) (n := x0) (ci := 3) (k := 81) (t := 13) fa_X3_240_3 t_x0 rfl dX3_handsFor_218 fun r16 t_r16 => ?_
        refine go_iload_n (pc := 221) (j := 3) (i := 3) dX3_handsFor_221 rfl rfl ?_
        refine go_oB fun n14 e_n14 => ?_
        have t_n14 := t_r16 n14 e_n14
        subst e_n14
        refine go_iald (pc := 222) t_n14 dX3_handsFor_222 ?_
        refine go_oB fun n15 e_n15 => ?_
        have t_n15 := t_r15 n15 e_n15
        subst e_n15
        refine go_iald (pc := 223) t_n15 dX3_handsFor_223 ?_
        refine go_callVI (pc := 224) (ci := 3) (ct_X3_farOf x0 (mI u11 n13 (xN (mI u11 n12 (xN (mI u11 n11 (xN x2)))))) (mI u11 n15 (xN (mI u11 n14 (xN x3)))) t_x0) lk_X3_293 rfl rfl rfl (by decide) t_x0 ⟨by decide, by decide⟩ (by simp [cat_rf, cat_int, cat_ref, cat_long]) dX3_handsFor_224 rfl fun v3 u12 => ?_
        refine go_oB fun n16 e_n16 => ?_
        have t_n16 := t_r11 n16 e_n16
        subst e_n16
        refine go_iast (pc := 227) t_n16 dX3_handsFor_227 fun u13 => ?_
        refine go_iinc (pc := 228) (i := 3) (w := 1) (A' := [(0, .ref x0), (2, .int x2), (3, .int (x3 + 1))]) rfl (by decide) (by decide) rfl rfl rfl dX3_handsFor_228 ?_
        refine go_goto (pc := 231) (tgt := 133) dX3_handsFor_231 (by decide) ?_
        exact go_weak (A' := [(0, .ref x0), (2, .int x2), (3, .int (x3 + 1))]) (B' := []) ⟨rfl, rfl, rfl, trivial⟩ rfl (fun q h => by cases h) (ih (x3 + 1) u13)
      · refine go_join0 (pcx := 187) ([(0, .ref x0), (2, .int x2), (3, .int x3)]) ([]) ([.int x3, va_rf r8]) (True) (fun u14 _ => ?_) (fun j3 hj3 => ?_)
        · refine go_iconst (pc := 187) (v := 0) dX3_handsFor_187 (by decide) ?_
          exact go_weak (A' := [(0, .ref x0), (2, .int x2), (3, .int x3)]) (B' := []) ⟨rfl, rfl, rfl, trivial⟩ rfl (fun q h => by cases h) (hj2 0 u14 trivial)
        · refine go_icmp_lt (pc := 155) (tgt := 187) dX3_handsFor_155 (by decide) (fun h8 => ?_) (fun h8 => ?_)
          · exact go_weak (A' := [(0, .ref x0), (2, .int x2), (3, .int x3)]) (B' := []) ⟨rfl, rfl, rfl, trivial⟩ rfl (fun q h => by cases h) (hj3 u trivial)
          · refine go_aload_n (pc := 158) (j := 0) (i := 0) dX3_handsFor_158 rfl rfl ?_
            refine go_aload_n (pc := 159) (j := 0) (i := 0) dX3_handsFor_159 rfl rfl ?_
            refine go_getR (pc := 160) (n := x0) (ci := 3) (k := 81) (t := 13) fa_X3_240_3 t_x0 rfl dX3_handsFor_160 fun r17 t_r17 => ?_
            refine go_iload_n (pc := 163) (j := 3) (i := 3) dX3_handsFor_163 rfl rfl ?_
            refine go_oB fun n17 e_n17 => ?_
            have t_n17 := t_r17 n17 e_n17
            subst e_n17
            refine go_iald (pc := 164) t_n17 dX3_handsFor_164 ?_
            refine go_aload_n (pc := 165) (j := 0) (i := 0) dX3_handsFor_165 rfl rfl ?_
            refine go_getR (pc := 166) (n := x0) (ci := 3) (k := 79) (t := 13) fa_X3_234_3 t_x0 rfl dX3_handsFor_166 fun r18 t_r18 => ?_
            refine go_iload_n (pc := 169) (j := 2) (i := 2) dX3_handsFor_169 rfl rfl ?_
            refine go_oB fun n18 e_n18 => ?_
            have t_n18 := t_r18 n18 e_n18
            subst e_n18
            refine go_iald (pc := 170) t_n18 dX3_handsFor_170 ?_
            refine go_aload_n (pc := 171) (j := 0) (i := 0) dX3_handsFor_171 rfl rfl ?_
            refine go_getR (pc := 172) (n := x0) (ci := 3) (k := 80) (t := 13) fa_X3_237_3 t_x0 rfl dX3_handsFor_172 fun r19 t_r19 => ?_
            refine go_iload_n (pc := 175) (j := 2) (i := 2) dX3_handsFor_175 rfl rfl ?_
            refine go_oB fun n19 e_n19 => ?_
            have t_n19 := t_r19 n19 e_n19
            subst e_n19
            refine go_iald (pc := 176) t_n19 dX3_handsFor_176 ?_
            refine go_callVI (pc := 177) (ci := 3) (ct_X3_barOf x0 (mI u n17 (xN x3)) (mI u n18 (xN x2)) (mI u n19 (xN x2)) t_x0) lk_X3_481 rfl rfl rfl (by decide) t_x0 ⟨by decide, by decide⟩ (by simp [cat_rf, cat_int, cat_ref, cat_long]) dX3_handsFor_177 rfl fun v4 u15 => ?_
            refine go_if_ne (pc := 180) (tgt := 187) dX3_handsFor_180 (by decide) (fun h9 => ?_) (fun h9 => ?_)
            · refine go_iconst (pc := 183) (v := 1) dX3_handsFor_183 (by decide) ?_
              refine go_goto (pc := 184) (tgt := 188) dX3_handsFor_184 (by decide) ?_
              exact go_weak (A' := [(0, .ref x0), (2, .int x2), (3, .int x3)]) (B' := []) ⟨rfl, rfl, rfl, trivial⟩ rfl (fun q h => by cases h) (hj2 1 u15 trivial)
            · exact go_weak (A' := [(0, .ref x0), (2, .int x2), (3, .int x3)]) (B' := []) ⟨rfl, rfl, rfl, trivial⟩ rfl (fun q h => by cases h) (hj3 u15 trivial)
end
def f_X3_handsFor_L92 (x0 : Nat) : Nat → Int32 → zM → Option (Int32 × zM)
  | 0, _, _ => none
  | n + 1, x2, u => if (mI u x0 86) ≤ x2 then (lt (sI u x0 88 (-1)) fun u7 => bd (f_X3_tries 8 x0 0 u7) fun v2 u8 => gb 1 (some (1, u8))) else (lt (mR u x0 80) fun r2 => lt (mR u x0 63) fun r3 => lt (mR u x0 79) fun r4 => oB r4 fun n2 => ix x2 (mN u n2) (oB r3 fun n3 => ix (mI u n2 (xN x2)) (mN u n3) (lt (mR u x0 63) fun r5 => lt (mR u x0 79) fun r6 => oB r6 fun n4 => ix x2 (mN u n4) (oB r5 fun n5 => ix (mI u n4 (xN x2)) (mN u n5) (oB r2 fun n6 => ix x2 (mN u n6) (lt (sI u n6 (xN x2) ((mI u n3 (xN (mI u n2 (xN x2)))) - ((mI u n5 (xN (mI u n4 (xN x2)))) - (mI u n5 (xN (mI u n4 (xN x2)))) / 2 * 2))) fun u9 => f_X3_handsFor_L133 x0 x2 (fun u16 => f_X3_handsFor_L92 x0 n (x2 + 1) u16) zFu 0 u9))))))
section
variable {c0 s0 : Nat} {tbv : List ExceptionTableEntry}
set_option maxHeartbeats 4000000 in
theorem g_X3_handsFor_L92 (x0 : Nat) (t_x0 : kd x0 = 3) : ∀ (n : Nat) (x2 : Int32) (u : zM), Go RX3 cX3_handsFor 4 (some .boolean) false 17 230 [] (obT) (zQ rvI) c0 s0 92 [(0, .ref x0), (2, .int x2)] [] [] u (f_X3_handsFor_L92 x0 n x2 u) := by
  intro n
  induction n with
  | zero => intros; exact go_none
  | succ n ih =>
    intro x2 u
    unfold f_X3_handsFor_L92
    refine go_iload_n (pc := 92) (j := 2) (i := 2) dX3_handsFor_92 rfl rfl ?_
    refine go_aload_n (pc := 93) (j := 0) (i := 0) dX3_handsFor_93 rfl rfl ?_
    refine go_getI (pc := 94) (n := x0) (ci := 3) (k := 86) fa_X3_504_3 t_x0 rfl dX3_handsFor_94 ?_
    refine go_icmp_ge (pc := 97) (tgt := 240) dX3_handsFor_97 (by decide) (fun h6 => ?_) (fun h6 => ?_)
    · refine go_aload_n (pc := 240) (j := 0) (i := 0) dX3_handsFor_240 rfl rfl ?_
      refine go_iconst (pc := 241) (v := (-1)) dX3_handsFor_241 (by decide) ?_
      refine go_putI (pc := 242) (n := x0) (ci := 3) (k := 88) (v := (-1)) pa_X3_510_3 (fun h => by cases h) t_x0 rfl zKeep_int dX3_handsFor_242 fun u7 => ?_
      refine go_aload_n (pc := 245) (j := 0) (i := 0) dX3_handsFor_245 rfl rfl ?_
      refine go_iconst (pc := 246) (v := 0) dX3_handsFor_246 (by decide) ?_
      refine go_callVV (pc := 247) (ci := 3) (ct_X3_tries 8 x0 0 t_x0) lk_X3_522 rfl rfl rfl (by decide) t_x0 ⟨by decide, by decide⟩ (Nat.le_of_ble_eq_true rfl) dX3_handsFor_247 rfl fun v2 u8 => ?_
      refine go_iconst (pc := 250) (v := 1) dX3_handsFor_250 (by decide) ?_
      exact go_zreturn (pc := 251) rfl dX3_handsFor_251
    · refine go_aload_n (pc := 100) (j := 0) (i := 0) dX3_handsFor_100 rfl rfl ?_
      refine go_getR (pc := 101) (n := x0) (ci := 3) (k := 80) (t := 13) fa_X3_237_3 t_x0 rfl dX3_handsFor_101 fun r2 t_r2 => ?_
      refine go_iload_n (pc := 104) (j := 2) (i := 2) dX3_handsFor_104 rfl rfl ?_
      refine go_aload_n (pc := 105) (j := 0) (i := 0) dX3_handsFor_105 rfl rfl ?_
      refine go_getR (pc := 106) (n := x0) (ci := 3) (k := 63) (t := 13) fa_X3_200_3 t_x0 rfl dX3_handsFor_106 fun r3 t_r3 => ?_
      refine go_aload_n (pc := 109) (j := 0) (i := 0) dX3_handsFor_109 rfl rfl ?_
      refine go_getR (pc := 110) (n := x0) (ci := 3) (k := 79) (t := 13) fa_X3_234_3 t_x0 rfl dX3_handsFor_110 fun r4 t_r4 => ?_
      refine go_iload_n (pc := 113) (j := 2) (i := 2) dX3_handsFor_113 rfl rfl ?_
      refine go_oB fun n2 e_n2 => ?_
      have t_n2 := t_r4 n2 e_n2
      subst e_n2
      refine go_iald (pc := 114) t_n2 dX3_handsFor_114 ?_
      refine go_oB fun n3 e_n3 => ?_
      have t_n3 := t_r3 n3 e_n3
      subst e_n3
      refine go_iald (pc := 115) t_n3 dX3_handsFor_115 ?_
      refine go_aload_n (pc := 116) (j := 0) (i := 0) dX3_handsFor_116 rfl rfl ?_
      refine go_getR (pc := 117) (n := x0) (ci := 3) (k := 63) (t := 13) fa_X3_200_3 t_x0 rfl dX3_handsFor_117 fun r5 t_r5 => ?_
      refine go_aload_n (pc := 120) (j := 0) (i := 0) dX3_handsFor_120 rfl rfl ?_
      refine go_getR (pc := 121) (n := x0) (ci := 3) (k := 79) (t := 13) fa_X3_234_3 t_x0 rfl dX3_handsFor_121 fun r6 t_r6 => ?_
      refine go_iload_n (pc := 124) (j := 2) (i := 2) dX3_handsFor_124 rfl rfl ?_
      refine go_oB fun n4 e_n4 => ?_
      have t_n4 := t_r6 n4 e_n4
      subst e_n4
      refine go_iald (pc := 125) t_n4 dX3_handsFor_125 ?_
      refine go_oB fun n5 e_n5 => ?_
      have t_n5 := t_r5 n5 e_n5
      subst e_n5
      refine go_iald (pc := 126) t_n5 dX3_handsFor_126 ?_
      refine go_iconst (pc := 127) (v := 2) dX3_handsFor_127 (by decide) ?_
      refine go_irem (pc := 128) dX3_handsFor_128 (by decide) ?_
      refine go_isub (pc := 129) dX3_handsFor_129 ?_
      refine go_oB fun n6 e_n6 => ?_
      have t_n6 := t_r2 n6 e_n6
      subst e_n6
      refine go_iast (pc := 130) t_n6 dX3_handsFor_130 fun u9 => ?_
      refine go_iconst (pc := 131) (v := 0) dX3_handsFor_131 (by decide) ?_
      refine go_istore_n (pc := 132) (j := 3) (i := 3) (A' := [(0, .ref x0), (2, .int x2), (3, .int 0)]) rfl (by decide) rfl rfl rfl dX3_handsFor_132 ?_
      refine go_weak (A' := [(0, .ref x0), (2, .int x2), (3, .int 0)]) (B' := []) ⟨rfl, rfl, rfl, trivial⟩ rfl (fun q h => by cases h) (g_X3_handsFor_L133 x0 x2 _ t_x0 ?_ zFu 0 u9)
      · intro u16
        refine go_iinc (pc := 234) (i := 2) (w := 1) (A' := [(0, .ref x0), (2, .int (x2 + 1))]) rfl (by decide) (by decide) rfl rfl rfl dX3_handsFor_234 ?_
        refine go_goto (pc := 237) (tgt := 92) dX3_handsFor_237 (by decide) ?_
        exact go_weak (A' := [(0, .ref x0), (2, .int (x2 + 1))]) (B' := []) ⟨rfl, rfl, trivial⟩ rfl (fun q h => by cases h) (ih (x2 + 1) u16)
end
def f_X3_handsFor (self : Nat) (p0 : Int32) (u : zM) : Option (Int32 × zM) := bd (f_X3_in (Int32.toInt64 p0) 1 (Int32.toInt64 ((1 <<< ((mI u self 2) &&& 31)) - 1)) u) fun v1 u1 => if v1 = 0 then (gb 0 (some (0, u1))) else (if (mI u1 self 86) = 0 then (gb 0 (some (0, u1))) else (lt (sI u1 self 87 0) fun u2 => f_X3_handsFor_L34 self p0 (fun u6 => f_X3_handsFor_L92 self zFu 0 u6) zFu 0 u2))
set_option maxHeartbeats 4000000 in
theorem ct_X3_handsFor (self : Nat) (p0 : Int32) (t_self : kd self = 3) : zMet yX3_handsFor cX3_handsFor 4 (some .boolean) 17 230 rvI (obT) [.ref self, .int p0] (f_X3_handsFor self p0) := by
  refine zMet_of (A := [(0, .ref self), (1, .int p0)]) (B := []) (ini := false) RX3 rfl (by decide +kernel) (fun h => by cases h) (by simp [lg_sl, Value.category]) (by simp [lv_args, Value.category]) rfl (by simp [lv_args, Value.category]) fun u => ?_
  unfold f_X3_handsFor
  refine go_iload_n (pc := 0) (j := 1) (i := 1) dX3_handsFor_0 rfl rfl ?_
  refine go_i2l (pc := 1) dX3_handsFor_1 ?_
  refine go_lconst (pc := 2) (v := 1) dX3_handsFor_2 (by decide) ?_
  refine go_iconst (pc := 3) (v := 1) dX3_handsFor_3 (by decide) ?_
  refine go_aload_n (pc := 4) (j := 0) (i := 0) dX3_handsFor_4 rfl rfl ?_
  refine go_getI (pc := 5) (n := self) (ci := 3) (k := 2) fa_X3_278_3 t_self rfl dX3_handsFor_5 ?_
  refine go_ishl (pc := 8) dX3_handsFor_8 ?_
  refine go_iconst (pc := 9) (v := 1) dX3_handsFor_9 (by decide) ?_
  refine go_isub (pc := 10) dX3_handsFor_10 ?_
  refine go_i2l (pc := 11) dX3_handsFor_11 ?_
  refine go_callSI (pc := 12) (ct_X3_in (Int32.toInt64 p0) 1 (Int32.toInt64 ((1 <<< ((mI u self 2) &&& 31)) - 1))) lk_X3_274 rfl ⟨by decide, by decide⟩ (Nat.le_of_ble_eq_true rfl) dX3_handsFor_12 rfl fun v1 u1 => ?_
  refine go_if_eq (pc := 15) (tgt := 25) dX3_handsFor_15 (by decide) (fun h1 => ?_) (fun h1 => ?_)
  · refine go_iconst (pc := 25) (v := 0) dX3_handsFor_25 (by decide) ?_
    exact go_zreturn (pc := 26) rfl dX3_handsFor_26
  · refine go_aload_n (pc := 18) (j := 0) (i := 0) dX3_handsFor_18 rfl rfl ?_
    refine go_getI (pc := 19) (n := self) (ci := 3) (k := 86) fa_X3_504_3 t_self rfl dX3_handsFor_19 ?_
    refine go_if_ne (pc := 22) (tgt := 27) dX3_handsFor_22 (by decide) (fun h2 => ?_) (fun h2 => ?_)
    · refine go_iconst (pc := 25) (v := 0) dX3_handsFor_25 (by decide) ?_
      exact go_zreturn (pc := 26) rfl dX3_handsFor_26
    · refine go_aload_n (pc := 27) (j := 0) (i := 0) dX3_handsFor_27 rfl rfl ?_
      refine go_iconst (pc := 28) (v := 0) dX3_handsFor_28 (by decide) ?_
      refine go_putI (pc := 29) (n := self) (ci := 3) (k := 87) (v := 0) pa_X3_507_3 (fun h => by cases h) t_self rfl zKeep_int dX3_handsFor_29 fun u2 => ?_
      refine go_iconst (pc := 32) (v := 0) dX3_handsFor_32 (by decide) ?_
      refine go_istore_n (pc := 33) (j := 2) (i := 2) (A' := [(0, .ref self), (1, .int p0), (2, .int 0)]) rfl (by decide) rfl rfl rfl dX3_handsFor_33 ?_
      refine go_weak (A' := [(0, .ref self), (1, .int p0), (2, .int 0)]) (B' := []) ⟨rfl, rfl, rfl, trivial⟩ rfl (fun q h => by cases h) (g_X3_handsFor_L34 self p0 _ t_self ?_ zFu 0 u2)
      · intro u6
        refine go_iconst (pc := 90) (v := 0) dX3_handsFor_90 (by decide) ?_
        refine go_istore_n (pc := 91) (j := 2) (i := 2) (A' := [(0, .ref self), (2, .int 0)]) rfl (by decide) rfl rfl rfl dX3_handsFor_91 ?_
        exact go_weak (A' := [(0, .ref self), (2, .int 0)]) (B' := []) ⟨rfl, rfl, trivial⟩ rfl (fun q h => by cases h) (g_X3_handsFor_L92 self t_self zFu 0 u6)

def f_X3_hands (self : Nat) (p0 : Int32) (p1 : Int32) (u : zM) : Option (Int32 × zM) := bd (f_X3_handsFor self p0 u) fun v1 u1 => if v1 = 0 then (some ((-1), u1)) else (bd (f_X3_in (Int32.toInt64 p1) 10 (Int32.toInt64 (9 + (mI u1 self 86))) u1) fun v2 u2 => if v2 = 0 then (if p1 = 0 then (some ((mI u2 self 88), u2)) else (if p1 = 1 then (some ((mI u2 self 89), u2)) else (if p1 = 2 then (some ((mI u2 self 90), u2)) else (some ((-1), u2))))) else (lt (mR u2 self 83) fun r1 => oB r1 fun n1 => ix (p1 - 10) (mN u2 n1) (if (mI u2 n1 (xN (p1 - 10))) = (-1) then (some ((-1), u2)) else (lt (mR u2 self 81) fun r2 => lt (mR u2 self 83) fun r3 => oB r3 fun n2 => ix (p1 - 10) (mN u2 n2) (oB r2 fun n3 => ix (mI u2 n2 (xN (p1 - 10))) (mN u2 n3) (some ((mI u2 n3 (xN (mI u2 n2 (xN (p1 - 10))))), u2)))))))
set_option maxHeartbeats 4000000 in
theorem ct_X3_hands (self : Nat) (p0 : Int32) (p1 : Int32) (t_self : kd self = 3) : zMet yX3_hands cX3_hands 3 (some .int) 18 253 rvI (obT) [.ref self, .int p0, .int p1] (f_X3_hands self p0 p1) := by
  refine zMet_of (A := [(0, .ref self), (1, .int p0), (2, .int p1)]) (B := []) (ini := false) RX3 rfl (by decide +kernel) (fun h => by cases h) (by simp [lg_sl, Value.category]) (by simp [lv_args, Value.category]) rfl (by simp [lv_args, Value.category]) fun u => ?_
  unfold f_X3_hands
  refine go_aload_n (pc := 0) (j := 0) (i := 0) dX3_hands_0 rfl rfl ?_
  refine go_iload_n (pc := 1) (j := 1) (i := 1) dX3_hands_1 rfl rfl ?_
  refine go_callVI (pc := 2) (ci := 3) (ct_X3_handsFor self p0 t_self) lk_X3_525 rfl rfl rfl (by decide) t_self ⟨by decide, by decide⟩ (Nat.le_of_ble_eq_true rfl) dX3_hands_2 rfl fun v1 u1 => ?_
  refine go_if_ne (pc := 5) (tgt := 10) dX3_hands_5 (by decide) (fun h1 => ?_) (fun h1 => ?_)
  · refine go_iconst (pc := 8) (v := (-1)) dX3_hands_8 (by decide) ?_
    exact go_ireturn (pc := 9) rfl dX3_hands_9
  · refine go_iload_n (pc := 10) (j := 2) (i := 2) dX3_hands_10 rfl rfl ?_
    refine go_i2l (pc := 11) dX3_hands_11 ?_
    refine go_ldc2 (pc := 12) (v := 10) dX3_hands_12 q1819 ?_
    refine go_bipush (pc := 15) (v := 9) dX3_hands_15 (by decide) ?_
    refine go_aload_n (pc := 17) (j := 0) (i := 0) dX3_hands_17 rfl rfl ?_
    refine go_getI (pc := 18) (n := self) (ci := 3) (k := 86) fa_X3_504_3 t_self rfl dX3_hands_18 ?_
    refine go_iadd (pc := 21) dX3_hands_21 ?_
    refine go_i2l (pc := 22) dX3_hands_22 ?_
    refine go_callSI (pc := 23) (ct_X3_in (Int32.toInt64 p1) 10 (Int32.toInt64 (9 + (mI u1 self 86)))) lk_X3_274 rfl ⟨by decide, by decide⟩ (Nat.le_of_ble_eq_true rfl) dX3_hands_23 rfl fun v2 u2 => ?_
    refine go_if_eq (pc := 26) (tgt := 61) dX3_hands_26 (by decide) (fun h2 => ?_) (fun h2 => ?_)
    · refine go_iload_n (pc := 61) (j := 2) (i := 2) dX3_hands_61 rfl rfl ?_
      refine go_if_ne (pc := 62) (tgt := 72) dX3_hands_62 (by decide) (fun h3 => ?_) (fun h3 => ?_)
      · refine go_aload_n (pc := 65) (j := 0) (i := 0) dX3_hands_65 rfl rfl ?_
        refine go_getI (pc := 66) (n := self) (ci := 3) (k := 88) fa_X3_510_3 t_self rfl dX3_hands_66 ?_
        refine go_goto (pc := 69) (tgt := 97) dX3_hands_69 (by decide) ?_
        exact go_ireturn (pc := 97) rfl dX3_hands_97
      · refine go_iload_n (pc := 72) (j := 2) (i := 2) dX3_hands_72 rfl rfl ?_
        refine go_iconst (pc := 73) (v := 1) dX3_hands_73 (by decide) ?_
        refine go_icmp_ne (pc := 74) (tgt := 84) dX3_hands_74 (by decide) (fun h4 => ?_) (fun h4 => ?_)
        · refine go_aload_n (pc := 77) (j := 0) (i := 0) dX3_hands_77 rfl rfl ?_
          refine go_getI (pc := 78) (n := self) (ci := 3) (k := 89) fa_X3_513_3 t_self rfl dX3_hands_78 ?_
          refine go_goto (pc := 81) (tgt := 97) dX3_hands_81 (by decide) ?_
          exact go_ireturn (pc := 97) rfl dX3_hands_97
        · refine go_iload_n (pc := 84) (j := 2) (i := 2) dX3_hands_84 rfl rfl ?_
          refine go_iconst (pc := 85) (v := 2) dX3_hands_85 (by decide) ?_
          refine go_icmp_ne (pc := 86) (tgt := 96) dX3_hands_86 (by decide) (fun h5 => ?_) (fun h5 => ?_)
          · refine go_aload_n (pc := 89) (j := 0) (i := 0) dX3_hands_89 rfl rfl ?_
            refine go_getI (pc := 90) (n := self) (ci := 3) (k := 90) fa_X3_516_3 t_self rfl dX3_hands_90 ?_
            refine go_goto (pc := 93) (tgt := 97) dX3_hands_93 (by decide) ?_
            exact go_ireturn (pc := 97) rfl dX3_hands_97
          · refine go_iconst (pc := 96) (v := (-1)) dX3_hands_96 (by decide) ?_
            exact go_ireturn (pc := 97) rfl dX3_hands_97
    · refine go_aload_n (pc := 29) (j := 0) (i := 0) dX3_hands_29 rfl rfl ?_
      refine go_getR (pc := 30) (n := self) (ci := 3) (k := 83) (t := 13) fa_X3_246_3 t_self rfl dX3_hands_30 fun r1 t_r1 => ?_
      refine go_iload_n (pc := 33) (j := 2) (i := 2) dX3_hands_33 rfl rfl ?_
      refine go_bipush (pc := 34) (v := 10) dX3_hands_34 (by decide) ?_
      refine go_isub (pc := 36) dX3_hands_36 ?_
      refine go_oB fun n1 e_n1 => ?_
      have t_n1 := t_r1 n1 e_n1
      subst e_n1
      refine go_iald (pc := 37) t_n1 dX3_hands_37 ?_
      refine go_iconst (pc := 38) (v := (-1)) dX3_hands_38 (by decide) ?_
      refine go_icmp_ne (pc := 39) (tgt := 46) dX3_hands_39 (by decide) (fun h6 => ?_) (fun h6 => ?_)
      · refine go_iconst (pc := 42) (v := (-1)) dX3_hands_42 (by decide) ?_
        refine go_goto (pc := 43) (tgt := 60) dX3_hands_43 (by decide) ?_
        exact go_ireturn (pc := 60) rfl dX3_hands_60
      · refine go_aload_n (pc := 46) (j := 0) (i := 0) dX3_hands_46 rfl rfl ?_
        refine go_getR (pc := 47) (n := self) (ci := 3) (k := 81) (t := 13) fa_X3_240_3 t_self rfl dX3_hands_47 fun r2 t_r2 => ?_
        refine go_aload_n (pc := 50) (j := 0) (i := 0) dX3_hands_50 rfl rfl ?_
        refine go_getR (pc := 51) (n := self) (ci := 3) (k := 83) (t := 13) fa_X3_246_3 t_self rfl dX3_hands_51 fun r3 t_r3 => ?_
        refine go_iload_n (pc := 54) (j := 2) (i := 2) dX3_hands_54 rfl rfl ?_
        refine go_bipush (pc := 55) (v := 10) dX3_hands_55 (by decide) ?_
        refine go_isub (pc := 57) dX3_hands_57 ?_
        refine go_oB fun n2 e_n2 => ?_
        have t_n2 := t_r3 n2 e_n2
        subst e_n2
        refine go_iald (pc := 58) t_n2 dX3_hands_58 ?_
        refine go_oB fun n3 e_n3 => ?_
        have t_n3 := t_r2 n3 e_n3
        subst e_n3
        refine go_iald (pc := 59) t_n3 dX3_hands_59 ?_
        exact go_ireturn (pc := 60) rfl dX3_hands_60

def f_X3_bring (self : Nat) (p0 : Int32) (p1 : Int32) (u : zM) : Option (Int32 × zM) := bd (f_X3_isCloth self p0 u) fun v1 u1 => if v1 = 0 then (some ((-1), u1)) else (bd (f_X3_isVillage self p1 u1) fun v2 u2 => if v2 = 0 then (some ((-1), u2)) else (lt (mR u2 self 76) fun r1 => oB r1 fun n1 => ix p0 (mN u2 n1) (if (mI u2 n1 (xN p0)) = (-1) then (lt (mR u2 self 20) fun r2 => lt (mR u2 self 73) fun r3 => oB r3 fun n2 => ix p0 (mN u2 n2) (oB r2 fun n3 => ix (mI u2 n2 (xN p0)) (mN u2 n3) (bd (f_X3_farOf self (mI u2 n3 (xN (mI u2 n2 (xN p0)))) p1 u2) fun v3 u3 => if v3 = (-1) then (some ((-1), u3)) else (lt (mR u3 self 8) fun r4 => oB r4 fun n4 => ix p1 (mN u3 n4) (lt (mR u3 self 9) fun r5 => oB r5 fun n5 => ix p1 (mN u3 n5) (lt (mR u3 self 75) fun r6 => oB r6 fun n6 => ix p0 (mN u3 n6) (if (((mI u3 n4 (xN p1)) + (mI u3 n5 (xN p1))) + (mI u3 n6 (xN p0))) ≤ 9999 then (lt (mR u3 self 76) fun r7 => oB r7 fun n7 => ix p0 (mN u3 n7) (lt (sI u3 n7 (xN p0) p1) fun u4 => lt (mR u4 self 77) fun r8 => oB r8 fun n8 => ix p0 (mN u4 n8) (if (mI u4 n8 (xN p0)) = 0 then (lt (mR u4 self 9) fun r9 => oB r9 fun n9 => ix p1 (mN u4 n9) (lt (mR u4 self 75) fun r10 => oB r10 fun n10 => ix p0 (mN u4 n10) (ix p1 (mN u4 n9) (lt (sI u4 n9 (xN p1) ((mI u4 n9 (xN p1)) + (mI u4 n10 (xN p0)))) fun u5 => lt (mR u5 self 8) fun r11 => oB r11 fun n11 => ix p1 (mN u5 n11) (lt (mR u5 self 9) fun r12 => oB r12 fun n12 => ix p1 (mN u5 n12) (some (((mI u5 n11 (xN p1)) + (mI u5 n12 (xN p1))), u5))))))) else (lt (mR u4 self 8) fun r13 => oB r13 fun n13 => ix p1 (mN u4 n13) (lt (mR u4 self 75) fun r14 => oB r14 fun n14 => ix p0 (mN u4 n14) (ix p1 (mN u4 n13) (lt (sI u4 n13 (xN p1) ((mI u4 n13 (xN p1)) + (mI u4 n14 (xN p0)))) fun u6 => lt (mR u6 self 16) fun r15 => oB r15 fun n15 => ix p1 (mN u6 n15) (lt (mR u6 self 75) fun r16 => oB r16 fun n16 => ix p0 (mN u6 n16) (ix p1 (mN u6 n15) (lt (sI u6 n15 (xN p1) ((mI u6 n15 (xN p1)) + (mI u6 n16 (xN p0)))) fun u7 => lt (mR u7 self 8) fun r17 => oB r17 fun n17 => ix p1 (mN u7 n17) (lt (mR u7 self 9) fun r18 => oB r18 fun n18 => ix p1 (mN u7 n18) (some (((mI u7 n17 (xN p1)) + (mI u7 n18 (xN p1))), u7))))))))))))) else (some ((-1), u3))))))))) else (some ((-1), u2)))))
set_option maxHeartbeats 4000000 in
theorem ct_X3_bring (self : Nat) (p0 : Int32) (p1 : Int32) (t_self : kd self = 3) : zMet yX3_bring cX3_bring 3 (some .int) 3 46 rvI (obT) [.ref self, .int p0, .int p1] (f_X3_bring self p0 p1) := by
  refine zMet_of (A := [(0, .ref self), (1, .int p0), (2, .int p1)]) (B := []) (ini := false) RX3 rfl (by decide +kernel) (fun h => by cases h) (by simp [lg_sl, Value.category]) (by simp [lv_args, Value.category]) rfl (by simp [lv_args, Value.category]) fun u => ?_
  unfold f_X3_bring
  refine go_aload_n (pc := 0) (j := 0) (i := 0) dX3_bring_0 rfl rfl ?_
  refine go_iload_n (pc := 1) (j := 1) (i := 1) dX3_bring_1 rfl rfl ?_
  refine go_callVI (pc := 2) (ci := 3) (ct_X3_isCloth self p0 t_self) lk_X3_501 rfl rfl rfl (by decide) t_self ⟨by decide, by decide⟩ (Nat.le_of_ble_eq_true rfl) dX3_bring_2 rfl fun v1 u1 => ?_
  refine go_if_eq (pc := 5) (tgt := 72) dX3_bring_5 (by decide) (fun h1 => ?_) (fun h1 => ?_)
  · refine go_iconst (pc := 72) (v := (-1)) dX3_bring_72 (by decide) ?_
    exact go_ireturn (pc := 73) rfl dX3_bring_73
  · refine go_aload_n (pc := 8) (j := 0) (i := 0) dX3_bring_8 rfl rfl ?_
    refine go_iload_n (pc := 9) (j := 2) (i := 2) dX3_bring_9 rfl rfl ?_
    refine go_callVI (pc := 10) (ci := 3) (ct_X3_isVillage self p1 t_self) lk_X3_289 rfl rfl rfl (by decide) t_self ⟨by decide, by decide⟩ (Nat.le_of_ble_eq_true rfl) dX3_bring_10 rfl fun v2 u2 => ?_
    refine go_if_eq (pc := 13) (tgt := 72) dX3_bring_13 (by decide) (fun h2 => ?_) (fun h2 => ?_)
    · refine go_iconst (pc := 72) (v := (-1)) dX3_bring_72 (by decide) ?_
      exact go_ireturn (pc := 73) rfl dX3_bring_73
    · refine go_aload_n (pc := 16) (j := 0) (i := 0) dX3_bring_16 rfl rfl ?_
      refine go_getR (pc := 17) (n := self) (ci := 3) (k := 76) (t := 13) fa_X3_227_3 t_self rfl dX3_bring_17 fun r1 t_r1 => ?_
      refine go_iload_n (pc := 20) (j := 1) (i := 1) dX3_bring_20 rfl rfl ?_
      refine go_oB fun n1 e_n1 => ?_
      have t_n1 := t_r1 n1 e_n1
      subst e_n1
      refine go_iald (pc := 21) t_n1 dX3_bring_21 ?_
      refine go_iconst (pc := 22) (v := (-1)) dX3_bring_22 (by decide) ?_
      refine go_icmp_ne (pc := 23) (tgt := 72) dX3_bring_23 (by decide) (fun h3 => ?_) (fun h3 => ?_)
      · refine go_aload_n (pc := 26) (j := 0) (i := 0) dX3_bring_26 rfl rfl ?_
        refine go_aload_n (pc := 27) (j := 0) (i := 0) dX3_bring_27 rfl rfl ?_
        refine go_getR (pc := 28) (n := self) (ci := 3) (k := 20) (t := 13) fa_X3_63_3 t_self rfl dX3_bring_28 fun r2 t_r2 => ?_
        refine go_aload_n (pc := 31) (j := 0) (i := 0) dX3_bring_31 rfl rfl ?_
        refine go_getR (pc := 32) (n := self) (ci := 3) (k := 73) (t := 13) fa_X3_218_3 t_self rfl dX3_bring_32 fun r3 t_r3 => ?_
        refine go_iload_n (pc := 35) (j := 1) (i := 1) dX3_bring_35 rfl rfl ?_
        refine go_oB fun n2 e_n2 => ?_
        have t_n2 := t_r3 n2 e_n2
        subst e_n2
        refine go_iald (pc := 36) t_n2 dX3_bring_36 ?_
        refine go_oB fun n3 e_n3 => ?_
        have t_n3 := t_r2 n3 e_n3
        subst e_n3
        refine go_iald (pc := 37) t_n3 dX3_bring_37 ?_
        refine go_iload_n (pc := 38) (j := 2) (i := 2) dX3_bring_38 rfl rfl ?_
        refine go_callVI (pc := 39) (ci := 3) (ct_X3_farOf self (mI u2 n3 (xN (mI u2 n2 (xN p0)))) p1 t_self) lk_X3_293 rfl rfl rfl (by decide) t_self ⟨by decide, by decide⟩ (Nat.le_of_ble_eq_true rfl) dX3_bring_39 rfl fun v3 u3 => ?_
        refine go_iconst (pc := 42) (v := (-1)) dX3_bring_42 (by decide) ?_
        refine go_icmp_eq (pc := 43) (tgt := 72) dX3_bring_43 (by decide) (fun h4 => ?_) (fun h4 => ?_)
        · refine go_iconst (pc := 72) (v := (-1)) dX3_bring_72 (by decide) ?_
          exact go_ireturn (pc := 73) rfl dX3_bring_73
        · refine go_aload_n (pc := 46) (j := 0) (i := 0) dX3_bring_46 rfl rfl ?_
          refine go_getR (pc := 47) (n := self) (ci := 3) (k := 8) (t := 13) fa_X3_27_3 t_self rfl dX3_bring_47 fun r4 t_r4 => ?_
          refine go_iload_n (pc := 50) (j := 2) (i := 2) dX3_bring_50 rfl rfl ?_
          refine go_oB fun n4 e_n4 => ?_
          have t_n4 := t_r4 n4 e_n4
          subst e_n4
          refine go_iald (pc := 51) t_n4 dX3_bring_51 ?_
          refine go_aload_n (pc := 52) (j := 0) (i := 0) dX3_bring_52 rfl rfl ?_
          refine go_getR (pc := 53) (n := self) (ci := 3) (k := 9) (t := 13) fa_X3_30_3 t_self rfl dX3_bring_53 fun r5 t_r5 => ?_
          refine go_iload_n (pc := 56) (j := 2) (i := 2) dX3_bring_56 rfl rfl ?_
          refine go_oB fun n5 e_n5 => ?_
          have t_n5 := t_r5 n5 e_n5
          subst e_n5
          refine go_iald (pc := 57) t_n5 dX3_bring_57 ?_
          refine go_iadd (pc := 58) dX3_bring_58 ?_
          refine go_aload_n (pc := 59) (j := 0) (i := 0) dX3_bring_59 rfl rfl ?_
          refine go_getR (pc := 60) (n := self) (ci := 3) (k := 75) (t := 13) fa_X3_224_3 t_self rfl dX3_bring_60 fun r6 t_r6 => ?_
          refine go_iload_n (pc := 63) (j := 1) (i := 1) dX3_bring_63 rfl rfl ?_
          refine go_oB fun n6 e_n6 => ?_
          have t_n6 := t_r6 n6 e_n6
          subst e_n6
          refine go_iald (pc := 64) t_n6 dX3_bring_64 ?_
          refine go_iadd (pc := 65) dX3_bring_65 ?_
          refine go_sipush (pc := 66) (v := 9999) dX3_bring_66 (by decide) ?_
          refine go_icmp_le (pc := 69) (tgt := 74) dX3_bring_69 (by decide) (fun h5 => ?_) (fun h5 => ?_)
          · refine go_aload_n (pc := 74) (j := 0) (i := 0) dX3_bring_74 rfl rfl ?_
            refine go_getR (pc := 75) (n := self) (ci := 3) (k := 76) (t := 13) fa_X3_227_3 t_self rfl dX3_bring_75 fun r7 t_r7 => ?_
            refine go_iload_n (pc := 78) (j := 1) (i := 1) dX3_bring_78 rfl rfl ?_
            refine go_iload_n (pc := 79) (j := 2) (i := 2) dX3_bring_79 rfl rfl ?_
            refine go_oB fun n7 e_n7 => ?_
            have t_n7 := t_r7 n7 e_n7
            subst e_n7
            refine go_iast (pc := 80) t_n7 dX3_bring_80 fun u4 => ?_
            refine go_aload_n (pc := 81) (j := 0) (i := 0) dX3_bring_81 rfl rfl ?_
            refine go_getR (pc := 82) (n := self) (ci := 3) (k := 77) (t := 15) fa_X3_230_3 t_self rfl dX3_bring_82 fun r8 t_r8 => ?_
            refine go_iload_n (pc := 85) (j := 1) (i := 1) dX3_bring_85 rfl rfl ?_
            refine go_oB fun n8 e_n8 => ?_
            have t_n8 := t_r8 n8 e_n8
            subst e_n8
            refine go_zald (pc := 86) t_n8 dX3_bring_86 ?_
            refine go_if_eq (pc := 87) (tgt := 123) dX3_bring_87 (by decide) (fun h6 => ?_) (fun h6 => ?_)
            · refine go_aload_n (pc := 123) (j := 0) (i := 0) dX3_bring_123 rfl rfl ?_
              refine go_getR (pc := 124) (n := self) (ci := 3) (k := 9) (t := 13) fa_X3_30_3 t_self rfl dX3_bring_124 fun r9 t_r9 => ?_
              refine go_iload_n (pc := 127) (j := 2) (i := 2) dX3_bring_127 rfl rfl ?_
              refine go_oB fun n9 e_n9 => ?_
              have t_n9 := t_r9 n9 e_n9
              subst e_n9
              refine go_dup2 (pc := 128) dX3_bring_128 ?_
              refine go_iald (pc := 129) t_n9 dX3_bring_129 ?_
              refine go_aload_n (pc := 130) (j := 0) (i := 0) dX3_bring_130 rfl rfl ?_
              refine go_getR (pc := 131) (n := self) (ci := 3) (k := 75) (t := 13) fa_X3_224_3 t_self rfl dX3_bring_131 fun r10 t_r10 => ?_
              refine go_iload_n (pc := 134) (j := 1) (i := 1) dX3_bring_134 rfl rfl ?_
              refine go_oB fun n10 e_n10 => ?_
              have t_n10 := t_r10 n10 e_n10
              subst e_n10
              refine go_iald (pc := 135) t_n10 dX3_bring_135 ?_
              refine go_iadd (pc := 136) dX3_bring_136 ?_
              refine go_iast (pc := 137) t_n9 dX3_bring_137 fun u5 => ?_
              refine go_aload_n (pc := 138) (j := 0) (i := 0) dX3_bring_138 rfl rfl ?_
              refine go_getR (pc := 139) (n := self) (ci := 3) (k := 8) (t := 13) fa_X3_27_3 t_self rfl dX3_bring_139 fun r11 t_r11 => ?_
              refine go_iload_n (pc := 142) (j := 2) (i := 2) dX3_bring_142 rfl rfl ?_
              refine go_oB fun n11 e_n11 => ?_
              have t_n11 := t_r11 n11 e_n11
              subst e_n11
              refine go_iald (pc := 143) t_n11 dX3_bring_143 ?_
              refine go_aload_n (pc := 144) (j := 0) (i := 0) dX3_bring_144 rfl rfl ?_
              refine go_getR (pc := 145) (n := self) (ci := 3) (k := 9) (t := 13) fa_X3_30_3 t_self rfl dX3_bring_145 fun r12 t_r12 => ?_
              refine go_iload_n (pc := 148) (j := 2) (i := 2) dX3_bring_148 rfl rfl ?_
              refine go_oB fun n12 e_n12 => ?_
              have t_n12 := t_r12 n12 e_n12
              subst e_n12
              refine go_iald (pc := 149) t_n12 dX3_bring_149 ?_
              refine go_iadd (pc := 150) dX3_bring_150 ?_
              exact go_ireturn (pc := 151) rfl dX3_bring_151
            · refine go_aload_n (pc := 90) (j := 0) (i := 0) dX3_bring_90 rfl rfl ?_
              refine go_getR (pc := 91) (n := self) (ci := 3) (k := 8) (t := 13) fa_X3_27_3 t_self rfl dX3_bring_91 fun r13 t_r13 => ?_
              refine go_iload_n (pc := 94) (j := 2) (i := 2) dX3_bring_94 rfl rfl ?_
              refine go_oB fun n13 e_n13 => ?_
              have t_n13 := t_r13 n13 e_n13
              subst e_n13
              refine go_dup2 (pc := 95) dX3_bring_95 ?_
              refine go_iald (pc := 96) t_n13 dX3_bring_96 ?_
              refine go_aload_n (pc := 97) (j := 0) (i := 0) dX3_bring_97 rfl rfl ?_
              refine go_getR (pc := 98) (n := self) (ci := 3) (k := 75) (t := 13) fa_X3_224_3 t_self rfl dX3_bring_98 fun r14 t_r14 => ?_
              refine go_iload_n (pc := 101) (j := 1) (i := 1) dX3_bring_101 rfl rfl ?_
              refine go_oB fun n14 e_n14 => ?_
              have t_n14 := t_r14 n14 e_n14
              subst e_n14
              refine go_iald (pc := 102) t_n14 dX3_bring_102 ?_
              refine go_iadd (pc := 103) dX3_bring_103 ?_
              refine go_iast (pc := 104) t_n13 dX3_bring_104 fun u6 => ?_
              refine go_aload_n (pc := 105) (j := 0) (i := 0) dX3_bring_105 rfl rfl ?_
              refine go_getR (pc := 106) (n := self) (ci := 3) (k := 16) (t := 13) fa_X3_51_3 t_self rfl dX3_bring_106 fun r15 t_r15 => ?_
              refine go_iload_n (pc := 109) (j := 2) (i := 2) dX3_bring_109 rfl rfl ?_
              refine go_oB fun n15 e_n15 => ?_
              have t_n15 := t_r15 n15 e_n15
              subst e_n15
              refine go_dup2 (pc := 110) dX3_bring_110 ?_
              refine go_iald (pc := 111) t_n15 dX3_bring_111 ?_
              refine go_aload_n (pc := 112) (j := 0) (i := 0) dX3_bring_112 rfl rfl ?_
              refine go_getR (pc := 113) (n := self) (ci := 3) (k := 75) (t := 13) fa_X3_224_3 t_self rfl dX3_bring_113 fun r16 t_r16 => ?_
              refine go_iload_n (pc := 116) (j := 1) (i := 1) dX3_bring_116 rfl rfl ?_
              refine go_oB fun n16 e_n16 => ?_
              have t_n16 := t_r16 n16 e_n16
              subst e_n16
              refine go_iald (pc := 117) t_n16 dX3_bring_117 ?_
              refine go_iadd (pc := 118) dX3_bring_118 ?_
              refine go_iast (pc := 119) t_n15 dX3_bring_119 fun u7 => ?_
              refine go_goto (pc := 120) (tgt := 138) dX3_bring_120 (by decide) ?_
              refine go_aload_n (pc := 138) (j := 0) (i := 0) dX3_bring_138 rfl rfl ?_
              refine go_getR (pc := 139) (n := self) (ci := 3) (k := 8) (t := 13) fa_X3_27_3 t_self rfl dX3_bring_139 fun r17 t_r17 => ?_
              refine go_iload_n (pc := 142) (j := 2) (i := 2) dX3_bring_142 rfl rfl ?_
              refine go_oB fun n17 e_n17 => ?_
              have t_n17 := t_r17 n17 e_n17
              subst e_n17
              refine go_iald (pc := 143) t_n17 dX3_bring_143 ?_
              refine go_aload_n (pc := 144) (j := 0) (i := 0) dX3_bring_144 rfl rfl ?_
              refine go_getR (pc := 145) (n := self) (ci := 3) (k := 9) (t := 13) fa_X3_30_3 t_self rfl dX3_bring_145 fun r18 t_r18 => ?_
              refine go_iload_n (pc := 148) (j := 2) (i := 2) dX3_bring_148 rfl rfl ?_
              refine go_oB fun n18 e_n18 => ?_
              have t_n18 := t_r18 n18 e_n18
              subst e_n18
              refine go_iald (pc := 149) t_n18 dX3_bring_149 ?_
              refine go_iadd (pc := 150) dX3_bring_150 ?_
              exact go_ireturn (pc := 151) rfl dX3_bring_151
          · refine go_iconst (pc := 72) (v := (-1)) dX3_bring_72 (by decide) ?_
            exact go_ireturn (pc := 73) rfl dX3_bring_73
      · refine go_iconst (pc := 72) (v := (-1)) dX3_bring_72 (by decide) ?_
        exact go_ireturn (pc := 73) rfl dX3_bring_73

def f_X3_mill (self : Nat) (p0 : Int32) (p1 : Int32) (u : zM) : Option (Int32 × zM) := bd (f_X3_isVillage self p0 u) fun v1 u1 => if v1 = 0 then (some ((-1), u1)) else (bd (f_X3_in (Int32.toInt64 p1) 1 999 u1) fun v2 u2 => if v2 = 0 then (some ((-1), u2)) else (lt (mR u2 self 10) fun r1 => oB r1 fun n1 => ix p0 (mN u2 n1) (if ((mI u2 n1 (xN p0)) + p1) ≤ 9999 then (lt (mR u2 self 10) fun r2 => oB r2 fun n2 => ix p0 (mN u2 n2) (ix p0 (mN u2 n2) (lt (sI u2 n2 (xN p0) ((mI u2 n2 (xN p0)) + p1)) fun u3 => lt (mR u3 self 10) fun r3 => oB r3 fun n3 => ix p0 (mN u3 n3) (some ((mI u3 n3 (xN p0)), u3))))) else (some ((-1), u2)))))
set_option maxHeartbeats 4000000 in
theorem ct_X3_mill (self : Nat) (p0 : Int32) (p1 : Int32) (t_self : kd self = 3) : zMet yX3_mill cX3_mill 3 (some .int) 3 46 rvI (obT) [.ref self, .int p0, .int p1] (f_X3_mill self p0 p1) := by
  refine zMet_of (A := [(0, .ref self), (1, .int p0), (2, .int p1)]) (B := []) (ini := false) RX3 rfl (by decide +kernel) (fun h => by cases h) (by simp [lg_sl, Value.category]) (by simp [lv_args, Value.category]) rfl (by simp [lv_args, Value.category]) fun u => ?_
  unfold f_X3_mill
  refine go_aload_n (pc := 0) (j := 0) (i := 0) dX3_mill_0 rfl rfl ?_
  refine go_iload_n (pc := 1) (j := 1) (i := 1) dX3_mill_1 rfl rfl ?_
  refine go_callVI (pc := 2) (ci := 3) (ct_X3_isVillage self p0 t_self) lk_X3_289 rfl rfl rfl (by decide) t_self ⟨by decide, by decide⟩ (Nat.le_of_ble_eq_true rfl) dX3_mill_2 rfl fun v1 u1 => ?_
  refine go_if_eq (pc := 5) (tgt := 34) dX3_mill_5 (by decide) (fun h1 => ?_) (fun h1 => ?_)
  · refine go_iconst (pc := 34) (v := (-1)) dX3_mill_34 (by decide) ?_
    exact go_ireturn (pc := 35) rfl dX3_mill_35
  · refine go_iload_n (pc := 8) (j := 2) (i := 2) dX3_mill_8 rfl rfl ?_
    refine go_i2l (pc := 9) dX3_mill_9 ?_
    refine go_lconst (pc := 10) (v := 1) dX3_mill_10 (by decide) ?_
    refine go_ldc2 (pc := 11) (v := 999) dX3_mill_11 q1600 ?_
    refine go_callSI (pc := 14) (ct_X3_in (Int32.toInt64 p1) 1 999) lk_X3_274 rfl ⟨by decide, by decide⟩ (Nat.le_of_ble_eq_true rfl) dX3_mill_14 rfl fun v2 u2 => ?_
    refine go_if_eq (pc := 17) (tgt := 34) dX3_mill_17 (by decide) (fun h2 => ?_) (fun h2 => ?_)
    · refine go_iconst (pc := 34) (v := (-1)) dX3_mill_34 (by decide) ?_
      exact go_ireturn (pc := 35) rfl dX3_mill_35
    · refine go_aload_n (pc := 20) (j := 0) (i := 0) dX3_mill_20 rfl rfl ?_
      refine go_getR (pc := 21) (n := self) (ci := 3) (k := 10) (t := 13) fa_X3_33_3 t_self rfl dX3_mill_21 fun r1 t_r1 => ?_
      refine go_iload_n (pc := 24) (j := 1) (i := 1) dX3_mill_24 rfl rfl ?_
      refine go_oB fun n1 e_n1 => ?_
      have t_n1 := t_r1 n1 e_n1
      subst e_n1
      refine go_iald (pc := 25) t_n1 dX3_mill_25 ?_
      refine go_iload_n (pc := 26) (j := 2) (i := 2) dX3_mill_26 rfl rfl ?_
      refine go_iadd (pc := 27) dX3_mill_27 ?_
      refine go_sipush (pc := 28) (v := 9999) dX3_mill_28 (by decide) ?_
      refine go_icmp_le (pc := 31) (tgt := 36) dX3_mill_31 (by decide) (fun h3 => ?_) (fun h3 => ?_)
      · refine go_aload_n (pc := 36) (j := 0) (i := 0) dX3_mill_36 rfl rfl ?_
        refine go_getR (pc := 37) (n := self) (ci := 3) (k := 10) (t := 13) fa_X3_33_3 t_self rfl dX3_mill_37 fun r2 t_r2 => ?_
        refine go_iload_n (pc := 40) (j := 1) (i := 1) dX3_mill_40 rfl rfl ?_
        refine go_oB fun n2 e_n2 => ?_
        have t_n2 := t_r2 n2 e_n2
        subst e_n2
        refine go_dup2 (pc := 41) dX3_mill_41 ?_
        refine go_iald (pc := 42) t_n2 dX3_mill_42 ?_
        refine go_iload_n (pc := 43) (j := 2) (i := 2) dX3_mill_43 rfl rfl ?_
        refine go_iadd (pc := 44) dX3_mill_44 ?_
        refine go_iast (pc := 45) t_n2 dX3_mill_45 fun u3 => ?_
        refine go_aload_n (pc := 46) (j := 0) (i := 0) dX3_mill_46 rfl rfl ?_
        refine go_getR (pc := 47) (n := self) (ci := 3) (k := 10) (t := 13) fa_X3_33_3 t_self rfl dX3_mill_47 fun r3 t_r3 => ?_
        refine go_iload_n (pc := 50) (j := 1) (i := 1) dX3_mill_50 rfl rfl ?_
        refine go_oB fun n3 e_n3 => ?_
        have t_n3 := t_r3 n3 e_n3
        subst e_n3
        refine go_iald (pc := 51) t_n3 dX3_mill_51 ?_
        exact go_ireturn (pc := 52) rfl dX3_mill_52
      · refine go_iconst (pc := 34) (v := (-1)) dX3_mill_34 (by decide) ?_
        exact go_ireturn (pc := 35) rfl dX3_mill_35

def f_X3_price (self : Nat) (p0 : Int32) (p1 : Int32) (u : zM) : Option (Int32 × zM) := bd (f_X3_isVillage self p0 u) fun v1 u1 => if v1 = 0 then (gb 0 (some (0, u1))) else (if p1 < 0 then (gb 0 (some (0, u1))) else (bd (f_X3_in (Int32.toInt64 (p1 / 100)) 1 99 u1) fun v2 u2 => if v2 = 0 then (gb 0 (some (0, u2))) else (if (p1 - p1 / 100 * 100) = 0 then (gb 0 (some (0, u2))) else (lt (mR u2 self 11) fun r1 => oB r1 fun n1 => ix p0 (mN u2 n1) (lt (sI u2 n1 (xN p0) (p1 / 100)) fun u3 => lt (mR u3 self 12) fun r2 => oB r2 fun n2 => ix p0 (mN u3 n2) (lt (sI u3 n2 (xN p0) (p1 - p1 / 100 * 100)) fun u4 => gb 1 (some (1, u4))))))))
set_option maxHeartbeats 4000000 in
theorem ct_X3_price (self : Nat) (p0 : Int32) (p1 : Int32) (t_self : kd self = 3) : zMet yX3_price cX3_price 3 (some .boolean) 3 46 rvI (obT) [.ref self, .int p0, .int p1] (f_X3_price self p0 p1) := by
  refine zMet_of (A := [(0, .ref self), (1, .int p0), (2, .int p1)]) (B := []) (ini := false) RX3 rfl (by decide +kernel) (fun h => by cases h) (by simp [lg_sl, Value.category]) (by simp [lv_args, Value.category]) rfl (by simp [lv_args, Value.category]) fun u => ?_
  unfold f_X3_price
  refine go_aload_n (pc := 0) (j := 0) (i := 0) dX3_price_0 rfl rfl ?_
  refine go_iload_n (pc := 1) (j := 1) (i := 1) dX3_price_1 rfl rfl ?_
  refine go_callVI (pc := 2) (ci := 3) (ct_X3_isVillage self p0 t_self) lk_X3_289 rfl rfl rfl (by decide) t_self ⟨by decide, by decide⟩ (Nat.le_of_ble_eq_true rfl) dX3_price_2 rfl fun v1 u1 => ?_
  refine go_if_eq (pc := 5) (tgt := 34) dX3_price_5 (by decide) (fun h1 => ?_) (fun h1 => ?_)
  · refine go_iconst (pc := 34) (v := 0) dX3_price_34 (by decide) ?_
    exact go_zreturn (pc := 35) rfl dX3_price_35
  · refine go_iload_n (pc := 8) (j := 2) (i := 2) dX3_price_8 rfl rfl ?_
    refine go_if_lt (pc := 9) (tgt := 34) dX3_price_9 (by decide) (fun h2 => ?_) (fun h2 => ?_)
    · refine go_iconst (pc := 34) (v := 0) dX3_price_34 (by decide) ?_
      exact go_zreturn (pc := 35) rfl dX3_price_35
    · refine go_iload_n (pc := 12) (j := 2) (i := 2) dX3_price_12 rfl rfl ?_
      refine go_bipush (pc := 13) (v := 100) dX3_price_13 (by decide) ?_
      refine go_idiv (pc := 15) dX3_price_15 (by decide) ?_
      refine go_i2l (pc := 16) dX3_price_16 ?_
      refine go_lconst (pc := 17) (v := 1) dX3_price_17 (by decide) ?_
      refine go_ldc2 (pc := 18) (v := 99) dX3_price_18 q1832 ?_
      refine go_callSI (pc := 21) (ct_X3_in (Int32.toInt64 (p1 / 100)) 1 99) lk_X3_274 rfl ⟨by decide, by decide⟩ (Nat.le_of_ble_eq_true rfl) dX3_price_21 rfl fun v2 u2 => ?_
      refine go_if_eq (pc := 24) (tgt := 34) dX3_price_24 (by decide) (fun h3 => ?_) (fun h3 => ?_)
      · refine go_iconst (pc := 34) (v := 0) dX3_price_34 (by decide) ?_
        exact go_zreturn (pc := 35) rfl dX3_price_35
      · refine go_iload_n (pc := 27) (j := 2) (i := 2) dX3_price_27 rfl rfl ?_
        refine go_bipush (pc := 28) (v := 100) dX3_price_28 (by decide) ?_
        refine go_irem (pc := 30) dX3_price_30 (by decide) ?_
        refine go_if_ne (pc := 31) (tgt := 36) dX3_price_31 (by decide) (fun h4 => ?_) (fun h4 => ?_)
        · refine go_iconst (pc := 34) (v := 0) dX3_price_34 (by decide) ?_
          exact go_zreturn (pc := 35) rfl dX3_price_35
        · refine go_aload_n (pc := 36) (j := 0) (i := 0) dX3_price_36 rfl rfl ?_
          refine go_getR (pc := 37) (n := self) (ci := 3) (k := 11) (t := 13) fa_X3_36_3 t_self rfl dX3_price_37 fun r1 t_r1 => ?_
          refine go_iload_n (pc := 40) (j := 1) (i := 1) dX3_price_40 rfl rfl ?_
          refine go_iload_n (pc := 41) (j := 2) (i := 2) dX3_price_41 rfl rfl ?_
          refine go_bipush (pc := 42) (v := 100) dX3_price_42 (by decide) ?_
          refine go_idiv (pc := 44) dX3_price_44 (by decide) ?_
          refine go_oB fun n1 e_n1 => ?_
          have t_n1 := t_r1 n1 e_n1
          subst e_n1
          refine go_iast (pc := 45) t_n1 dX3_price_45 fun u3 => ?_
          refine go_aload_n (pc := 46) (j := 0) (i := 0) dX3_price_46 rfl rfl ?_
          refine go_getR (pc := 47) (n := self) (ci := 3) (k := 12) (t := 13) fa_X3_39_3 t_self rfl dX3_price_47 fun r2 t_r2 => ?_
          refine go_iload_n (pc := 50) (j := 1) (i := 1) dX3_price_50 rfl rfl ?_
          refine go_iload_n (pc := 51) (j := 2) (i := 2) dX3_price_51 rfl rfl ?_
          refine go_bipush (pc := 52) (v := 100) dX3_price_52 (by decide) ?_
          refine go_irem (pc := 54) dX3_price_54 (by decide) ?_
          refine go_oB fun n2 e_n2 => ?_
          have t_n2 := t_r2 n2 e_n2
          subst e_n2
          refine go_iast (pc := 55) t_n2 dX3_price_55 fun u4 => ?_
          refine go_iconst (pc := 56) (v := 1) dX3_price_56 (by decide) ?_
          exact go_zreturn (pc := 57) rfl dX3_price_57

def f_X3_talk (self : Nat) (p0 : Int32) (p1 : Int32) (u : zM) : Option (Int32 × zM) := bd (f_X3_isVillage self p0 u) fun v1 u1 => if v1 = 0 then (some ((-1), u1)) else (bd (f_X3_in (Int32.toInt64 p1) 0 20 u1) fun v2 u2 => if v2 = 0 then (some ((-1), u2)) else (lt (mR u2 self 13) fun r1 => oB r1 fun n1 => ix p0 (mN u2 n1) (lt (sI u2 n1 (xN p0) p1) fun u3 => some (p1, u3))))
set_option maxHeartbeats 4000000 in
theorem ct_X3_talk (self : Nat) (p0 : Int32) (p1 : Int32) (t_self : kd self = 3) : zMet yX3_talk cX3_talk 3 (some .int) 3 46 rvI (obT) [.ref self, .int p0, .int p1] (f_X3_talk self p0 p1) := by
  refine zMet_of (A := [(0, .ref self), (1, .int p0), (2, .int p1)]) (B := []) (ini := false) RX3 rfl (by decide +kernel) (fun h => by cases h) (by simp [lg_sl, Value.category]) (by simp [lv_args, Value.category]) rfl (by simp [lv_args, Value.category]) fun u => ?_
  unfold f_X3_talk
  refine go_aload_n (pc := 0) (j := 0) (i := 0) dX3_talk_0 rfl rfl ?_
  refine go_iload_n (pc := 1) (j := 1) (i := 1) dX3_talk_1 rfl rfl ?_
  refine go_callVI (pc := 2) (ci := 3) (ct_X3_isVillage self p0 t_self) lk_X3_289 rfl rfl rfl (by decide) t_self ⟨by decide, by decide⟩ (Nat.le_of_ble_eq_true rfl) dX3_talk_2 rfl fun v1 u1 => ?_
  refine go_if_eq (pc := 5) (tgt := 20) dX3_talk_5 (by decide) (fun h1 => ?_) (fun h1 => ?_)
  · refine go_iconst (pc := 20) (v := (-1)) dX3_talk_20 (by decide) ?_
    exact go_ireturn (pc := 21) rfl dX3_talk_21
  · refine go_iload_n (pc := 8) (j := 2) (i := 2) dX3_talk_8 rfl rfl ?_
    refine go_i2l (pc := 9) dX3_talk_9 ?_
    refine go_lconst (pc := 10) (v := 0) dX3_talk_10 (by decide) ?_
    refine go_ldc2 (pc := 11) (v := 20) dX3_talk_11 q1837 ?_
    refine go_callSI (pc := 14) (ct_X3_in (Int32.toInt64 p1) 0 20) lk_X3_274 rfl ⟨by decide, by decide⟩ (Nat.le_of_ble_eq_true rfl) dX3_talk_14 rfl fun v2 u2 => ?_
    refine go_if_ne (pc := 17) (tgt := 22) dX3_talk_17 (by decide) (fun h2 => ?_) (fun h2 => ?_)
    · refine go_iconst (pc := 20) (v := (-1)) dX3_talk_20 (by decide) ?_
      exact go_ireturn (pc := 21) rfl dX3_talk_21
    · refine go_aload_n (pc := 22) (j := 0) (i := 0) dX3_talk_22 rfl rfl ?_
      refine go_getR (pc := 23) (n := self) (ci := 3) (k := 13) (t := 13) fa_X3_42_3 t_self rfl dX3_talk_23 fun r1 t_r1 => ?_
      refine go_iload_n (pc := 26) (j := 1) (i := 1) dX3_talk_26 rfl rfl ?_
      refine go_iload_n (pc := 27) (j := 2) (i := 2) dX3_talk_27 rfl rfl ?_
      refine go_oB fun n1 e_n1 => ?_
      have t_n1 := t_r1 n1 e_n1
      subst e_n1
      refine go_iast (pc := 28) t_n1 dX3_talk_28 fun u3 => ?_
      refine go_iload_n (pc := 29) (j := 2) (i := 2) dX3_talk_29 rfl rfl ?_
      exact go_ireturn (pc := 30) rfl dX3_talk_30

def f_X3_heard (self : Nat) (p0 : Int32) (p1 : Int32) (u : zM) : Option (Int32 × zM) := bd (f_X3_isVillage self p0 u) fun v1 u1 => if v1 = 0 then (some ((-1), u1)) else (bd (f_X3_isVillage self p1 u1) fun v2 u2 => if v2 = 0 then (some ((-1), u2)) else (if (mI u2 self 0) = 156 then (some ((-1), u2)) else (bd (f_X3_farOf self p0 p1 u2) fun v3 u3 => if v3 = (-1) then (some ((-1), u3)) else (bd (f_X3_farOf self p0 p1 u3) fun v4 u4 => lt (mR u4 self 5) fun r1 => oB r1 fun n1 => ix p1 (mN u4 n1) (lt (mR u4 n1 (xN p1)) fun r2 => if 0 ≤ ((mI u3 self 0) - ((v4 + 6) / 7)) then (oB r2 fun n2 => ix ((mI u3 self 0) - ((v4 + 6) / 7)) (mN u4 n2) (some ((mI u4 n2 (xN ((mI u3 self 0) - ((v4 + 6) / 7)))), u4))) else (oB r2 fun n3 => ix 0 (mN u4 n3) (some ((mI u4 n3 (xN 0)), u4))))))))
set_option maxHeartbeats 4000000 in
theorem ct_X3_heard (self : Nat) (p0 : Int32) (p1 : Int32) (t_self : kd self = 3) : zMet yX3_heard cX3_heard 4 (some .int) 3 46 rvI (obT) [.ref self, .int p0, .int p1] (f_X3_heard self p0 p1) := by
  refine zMet_of (A := [(0, .ref self), (1, .int p0), (2, .int p1)]) (B := []) (ini := false) RX3 rfl (by decide +kernel) (fun h => by cases h) (by simp [lg_sl, Value.category]) (by simp [lv_args, Value.category]) rfl (by simp [lv_args, Value.category]) fun u => ?_
  unfold f_X3_heard
  refine go_aload_n (pc := 0) (j := 0) (i := 0) dX3_heard_0 rfl rfl ?_
  refine go_iload_n (pc := 1) (j := 1) (i := 1) dX3_heard_1 rfl rfl ?_
  refine go_callVI (pc := 2) (ci := 3) (ct_X3_isVillage self p0 t_self) lk_X3_289 rfl rfl rfl (by decide) t_self ⟨by decide, by decide⟩ (Nat.le_of_ble_eq_true rfl) dX3_heard_2 rfl fun v1 u1 => ?_
  refine go_if_eq (pc := 5) (tgt := 36) dX3_heard_5 (by decide) (fun h1 => ?_) (fun h1 => ?_)
  · refine go_iconst (pc := 36) (v := (-1)) dX3_heard_36 (by decide) ?_
    exact go_ireturn (pc := 37) rfl dX3_heard_37
  · refine go_aload_n (pc := 8) (j := 0) (i := 0) dX3_heard_8 rfl rfl ?_
    refine go_iload_n (pc := 9) (j := 2) (i := 2) dX3_heard_9 rfl rfl ?_
    refine go_callVI (pc := 10) (ci := 3) (ct_X3_isVillage self p1 t_self) lk_X3_289 rfl rfl rfl (by decide) t_self ⟨by decide, by decide⟩ (Nat.le_of_ble_eq_true rfl) dX3_heard_10 rfl fun v2 u2 => ?_
    refine go_if_eq (pc := 13) (tgt := 36) dX3_heard_13 (by decide) (fun h2 => ?_) (fun h2 => ?_)
    · refine go_iconst (pc := 36) (v := (-1)) dX3_heard_36 (by decide) ?_
      exact go_ireturn (pc := 37) rfl dX3_heard_37
    · refine go_aload_n (pc := 16) (j := 0) (i := 0) dX3_heard_16 rfl rfl ?_
      refine go_getI (pc := 17) (n := self) (ci := 3) (k := 0) fa_X3_286_3 t_self rfl dX3_heard_17 ?_
      refine go_sipush (pc := 20) (v := 156) dX3_heard_20 (by decide) ?_
      refine go_icmp_eq (pc := 23) (tgt := 36) dX3_heard_23 (by decide) (fun h3 => ?_) (fun h3 => ?_)
      · refine go_iconst (pc := 36) (v := (-1)) dX3_heard_36 (by decide) ?_
        exact go_ireturn (pc := 37) rfl dX3_heard_37
      · refine go_aload_n (pc := 26) (j := 0) (i := 0) dX3_heard_26 rfl rfl ?_
        refine go_iload_n (pc := 27) (j := 1) (i := 1) dX3_heard_27 rfl rfl ?_
        refine go_iload_n (pc := 28) (j := 2) (i := 2) dX3_heard_28 rfl rfl ?_
        refine go_callVI (pc := 29) (ci := 3) (ct_X3_farOf self p0 p1 t_self) lk_X3_293 rfl rfl rfl (by decide) t_self ⟨by decide, by decide⟩ (Nat.le_of_ble_eq_true rfl) dX3_heard_29 rfl fun v3 u3 => ?_
        refine go_iconst (pc := 32) (v := (-1)) dX3_heard_32 (by decide) ?_
        refine go_icmp_ne (pc := 33) (tgt := 38) dX3_heard_33 (by decide) (fun h4 => ?_) (fun h4 => ?_)
        · refine go_iconst (pc := 36) (v := (-1)) dX3_heard_36 (by decide) ?_
          exact go_ireturn (pc := 37) rfl dX3_heard_37
        · refine go_aload_n (pc := 38) (j := 0) (i := 0) dX3_heard_38 rfl rfl ?_
          refine go_getI (pc := 39) (n := self) (ci := 3) (k := 0) fa_X3_286_3 t_self rfl dX3_heard_39 ?_
          refine go_aload_n (pc := 42) (j := 0) (i := 0) dX3_heard_42 rfl rfl ?_
          refine go_iload_n (pc := 43) (j := 1) (i := 1) dX3_heard_43 rfl rfl ?_
          refine go_iload_n (pc := 44) (j := 2) (i := 2) dX3_heard_44 rfl rfl ?_
          refine go_callVI (pc := 45) (ci := 3) (ct_X3_farOf self p0 p1 t_self) lk_X3_293 rfl rfl rfl (by decide) t_self ⟨by decide, by decide⟩ (Nat.le_of_ble_eq_true rfl) dX3_heard_45 rfl fun v4 u4 => ?_
          refine go_bipush (pc := 48) (v := 6) dX3_heard_48 (by decide) ?_
          refine go_iadd (pc := 50) dX3_heard_50 ?_
          refine go_bipush (pc := 51) (v := 7) dX3_heard_51 (by decide) ?_
          refine go_idiv (pc := 53) dX3_heard_53 (by decide) ?_
          refine go_isub (pc := 54) dX3_heard_54 ?_
          refine go_istore_n (pc := 55) (j := 3) (i := 3) (A' := [(0, .ref self), (1, .int p0), (2, .int p1), (3, .int ((mI u3 self 0) - ((v4 + 6) / 7)))]) rfl (by decide) rfl rfl rfl dX3_heard_55 ?_
          refine go_aload_n (pc := 56) (j := 0) (i := 0) dX3_heard_56 rfl rfl ?_
          refine go_getR (pc := 57) (n := self) (ci := 3) (k := 5) (t := 23) fa_X3_17_3 t_self rfl dX3_heard_57 fun r1 t_r1 => ?_
          refine go_iload_n (pc := 60) (j := 2) (i := 2) dX3_heard_60 rfl rfl ?_
          refine go_oB fun n1 e_n1 => ?_
          have t_n1 := t_r1 n1 e_n1
          subst e_n1
          refine go_aald (pc := 61) (n := n1) (ci := 23) (t := 13) (by decide) (by decide) t_n1 rfl dX3_heard_61 fun r2 t_r2 => ?_
          refine go_iload_n (pc := 62) (j := 3) (i := 3) dX3_heard_62 rfl rfl ?_
          refine go_if_ge (pc := 63) (tgt := 70) dX3_heard_63 (by decide) (fun h5 => ?_) (fun h5 => ?_)
          · refine go_iload_n (pc := 70) (j := 3) (i := 3) dX3_heard_70 rfl rfl ?_
            refine go_oB fun n2 e_n2 => ?_
            have t_n2 := t_r2 n2 e_n2
            subst e_n2
            refine go_iald (pc := 71) t_n2 dX3_heard_71 ?_
            exact go_ireturn (pc := 72) rfl dX3_heard_72
          · refine go_iconst (pc := 66) (v := 0) dX3_heard_66 (by decide) ?_
            refine go_goto (pc := 67) (tgt := 71) dX3_heard_67 (by decide) ?_
            refine go_oB fun n3 e_n3 => ?_
            have t_n3 := t_r2 n3 e_n3
            subst e_n3
            refine go_iald (pc := 71) t_n3 dX3_heard_71 ?_
            exact go_ireturn (pc := 72) rfl dX3_heard_72

def f_X3_dutyAt (self : Nat) (p0 : Int32) (u : zM) : Option (Int32 × zM) := bd (f_X3_clears self u) fun v1 u1 => lt (mR u1 self 56) fun r1 => lt (mR u1 self 12) fun r2 => oB r2 fun n1 => ix p0 (mN u1 n1) (oB r1 fun n2 => ix 12 (mN u1 n2) (lt (sI u1 n2 (xN 12) (mI u1 n1 (xN p0))) fun u2 => bd (f_X3_tells self 2 u2) fun v2 u3 => bd (f_X3_least v2 u3) fun v3 u4 => some (v3, u4)))
set_option maxHeartbeats 4000000 in
theorem ct_X3_dutyAt (self : Nat) (p0 : Int32) (t_self : kd self = 3) : zMet yX3_dutyAt cX3_dutyAt 2 (some .int) 4 69 rvI (obT) [.ref self, .int p0] (f_X3_dutyAt self p0) := by
  refine zMet_of (A := [(0, .ref self), (1, .int p0)]) (B := []) (ini := false) RX3 rfl (by decide +kernel) (fun h => by cases h) (by simp [lg_sl, Value.category]) (by simp [lv_args, Value.category]) rfl (by simp [lv_args, Value.category]) fun u => ?_
  unfold f_X3_dutyAt
  refine go_aload_n (pc := 0) (j := 0) (i := 0) dX3_dutyAt_0 rfl rfl ?_
  refine go_callVV (pc := 1) (ci := 3) (ct_X3_clears self t_self) lk_X3_439 rfl rfl rfl (by decide) t_self ⟨by decide, by decide⟩ (Nat.le_of_ble_eq_true rfl) dX3_dutyAt_1 rfl fun v1 u1 => ?_
  refine go_aload_n (pc := 4) (j := 0) (i := 0) dX3_dutyAt_4 rfl rfl ?_
  refine go_getR (pc := 5) (n := self) (ci := 3) (k := 56) (t := 13) fa_X3_179_3 t_self rfl dX3_dutyAt_5 fun r1 t_r1 => ?_
  refine go_bipush (pc := 8) (v := 12) dX3_dutyAt_8 (by decide) ?_
  refine go_aload_n (pc := 10) (j := 0) (i := 0) dX3_dutyAt_10 rfl rfl ?_
  refine go_getR (pc := 11) (n := self) (ci := 3) (k := 12) (t := 13) fa_X3_39_3 t_self rfl dX3_dutyAt_11 fun r2 t_r2 => ?_
  refine go_iload_n (pc := 14) (j := 1) (i := 1) dX3_dutyAt_14 rfl rfl ?_
  refine go_oB fun n1 e_n1 => ?_
  have t_n1 := t_r2 n1 e_n1
  subst e_n1
  refine go_iald (pc := 15) t_n1 dX3_dutyAt_15 ?_
  refine go_oB fun n2 e_n2 => ?_
  have t_n2 := t_r1 n2 e_n2
  subst e_n2
  refine go_iast (pc := 16) t_n2 dX3_dutyAt_16 fun u2 => ?_
  refine go_aload_n (pc := 17) (j := 0) (i := 0) dX3_dutyAt_17 rfl rfl ?_
  refine go_iconst (pc := 18) (v := 2) dX3_dutyAt_18 (by decide) ?_
  refine go_callVI (pc := 19) (ci := 3) (ct_X3_tells self 2 t_self) lk_X3_445 rfl rfl rfl (by decide) t_self ⟨by decide, by decide⟩ (Nat.le_of_ble_eq_true rfl) dX3_dutyAt_19 rfl fun v2 u3 => ?_
  refine go_callSI (pc := 22) (ct_X3_least v2) lk_X3_448 rfl ⟨by decide, by decide⟩ (Nat.le_of_ble_eq_true rfl) dX3_dutyAt_22 rfl fun v3 u4 => ?_
  exact go_ireturn (pc := 25) rfl dX3_dutyAt_25

def f_X3_canHand (self : Nat) (p0 : Int32) (u : zM) : Option (Int32 × zM) := lt (mR u self 20) fun r1 => oB r1 fun n1 => ix p0 (mN u n1) (lt (mR u self 8) fun r2 => oB r2 fun n2 => ix (mI u n1 (xN p0)) (mN u n2) (lt (mR u self 9) fun r3 => oB r3 fun n3 => ix (mI u n1 (xN p0)) (mN u n3) (if ((mI u n2 (xN (mI u n1 (xN p0)))) + (mI u n3 (xN (mI u n1 (xN p0))))) ≤ 0 then (gb 0 (some (0, u))) else (lt (mR u self 25) fun r4 => oB r4 fun n4 => ix p0 (mN u n4) (lt (mR u self 11) fun r5 => oB r5 fun n5 => ix (mI u n1 (xN p0)) (mN u n5) (if (mI u n4 (xN p0)) < (mI u n5 (xN (mI u n1 (xN p0)))) then (gb 0 (some (0, u))) else (gb 1 (some (1, u)))))))))
set_option maxHeartbeats 4000000 in
theorem ct_X3_canHand (self : Nat) (p0 : Int32) (t_self : kd self = 3) : zMet yX3_canHand cX3_canHand 3 (some .boolean) 1 0 rvI (obT) [.ref self, .int p0] (f_X3_canHand self p0) := by
  refine zMet_of (A := [(0, .ref self), (1, .int p0)]) (B := []) (ini := false) RX3 rfl (by decide +kernel) (fun h => by cases h) (by simp [lg_sl, Value.category]) (by simp [lv_args, Value.category]) rfl (by simp [lv_args, Value.category]) fun u => ?_
  unfold f_X3_canHand
  refine go_aload_n (pc := 0) (j := 0) (i := 0) dX3_canHand_0 rfl rfl ?_
  refine go_getR (pc := 1) (n := self) (ci := 3) (k := 20) (t := 13) fa_X3_63_3 t_self rfl dX3_canHand_1 fun r1 t_r1 => ?_
  refine go_iload_n (pc := 4) (j := 1) (i := 1) dX3_canHand_4 rfl rfl ?_
  refine go_oB fun n1 e_n1 => ?_
  have t_n1 := t_r1 n1 e_n1
  subst e_n1
  refine go_iald (pc := 5) t_n1 dX3_canHand_5 ?_
  refine go_istore_n (pc := 6) (j := 2) (i := 2) (A' := [(0, .ref self), (1, .int p0), (2, .int (mI u n1 (xN p0)))]) rfl (by decide) rfl rfl rfl dX3_canHand_6 ?_
  refine go_aload_n (pc := 7) (j := 0) (i := 0) dX3_canHand_7 rfl rfl ?_
  refine go_getR (pc := 8) (n := self) (ci := 3) (k := 8) (t := 13) fa_X3_27_3 t_self rfl dX3_canHand_8 fun r2 t_r2 => ?_
  refine go_iload_n (pc := 11) (j := 2) (i := 2) dX3_canHand_11 rfl rfl ?_
  refine go_oB fun n2 e_n2 => ?_
  have t_n2 := t_r2 n2 e_n2
  subst e_n2
  refine go_iald (pc := 12) t_n2 dX3_canHand_12 ?_
  refine go_aload_n (pc := 13) (j := 0) (i := 0) dX3_canHand_13 rfl rfl ?_
  refine go_getR (pc := 14) (n := self) (ci := 3) (k := 9) (t := 13) fa_X3_30_3 t_self rfl dX3_canHand_14 fun r3 t_r3 => ?_
  refine go_iload_n (pc := 17) (j := 2) (i := 2) dX3_canHand_17 rfl rfl ?_
  refine go_oB fun n3 e_n3 => ?_
  have t_n3 := t_r3 n3 e_n3
  subst e_n3
  refine go_iald (pc := 18) t_n3 dX3_canHand_18 ?_
  refine go_iadd (pc := 19) dX3_canHand_19 ?_
  refine go_if_le (pc := 20) (tgt := 42) dX3_canHand_20 (by decide) (fun h1 => ?_) (fun h1 => ?_)
  · refine go_iconst (pc := 42) (v := 0) dX3_canHand_42 (by decide) ?_
    exact go_zreturn (pc := 43) rfl dX3_canHand_43
  · refine go_aload_n (pc := 23) (j := 0) (i := 0) dX3_canHand_23 rfl rfl ?_
    refine go_getR (pc := 24) (n := self) (ci := 3) (k := 25) (t := 13) fa_X3_78_3 t_self rfl dX3_canHand_24 fun r4 t_r4 => ?_
    refine go_iload_n (pc := 27) (j := 1) (i := 1) dX3_canHand_27 rfl rfl ?_
    refine go_oB fun n4 e_n4 => ?_
    have t_n4 := t_r4 n4 e_n4
    subst e_n4
    refine go_iald (pc := 28) t_n4 dX3_canHand_28 ?_
    refine go_aload_n (pc := 29) (j := 0) (i := 0) dX3_canHand_29 rfl rfl ?_
    refine go_getR (pc := 30) (n := self) (ci := 3) (k := 11) (t := 13) fa_X3_36_3 t_self rfl dX3_canHand_30 fun r5 t_r5 => ?_
    refine go_iload_n (pc := 33) (j := 2) (i := 2) dX3_canHand_33 rfl rfl ?_
    refine go_oB fun n5 e_n5 => ?_
    have t_n5 := t_r5 n5 e_n5
    subst e_n5
    refine go_iald (pc := 34) t_n5 dX3_canHand_34 ?_
    refine go_icmp_lt (pc := 35) (tgt := 42) dX3_canHand_35 (by decide) (fun h2 => ?_) (fun h2 => ?_)
    · refine go_iconst (pc := 42) (v := 0) dX3_canHand_42 (by decide) ?_
      exact go_zreturn (pc := 43) rfl dX3_canHand_43
    · refine go_iconst (pc := 38) (v := 1) dX3_canHand_38 (by decide) ?_
      refine go_goto (pc := 39) (tgt := 43) dX3_canHand_39 (by decide) ?_
      exact go_zreturn (pc := 43) rfl dX3_canHand_43

def f_X3_canMill (self : Nat) (p0 : Int32) (u : zM) : Option (Int32 × zM) := lt (mR u self 20) fun r1 => oB r1 fun n1 => ix p0 (mN u n1) (lt (mR u self 10) fun r2 => oB r2 fun n2 => ix (mI u n1 (xN p0)) (mN u n2) (if (mI u n2 (xN (mI u n1 (xN p0)))) ≤ 0 then (gb 0 (some (0, u))) else (lt (mR u self 25) fun r3 => oB r3 fun n3 => ix p0 (mN u n3) (lt (mR u self 12) fun r4 => oB r4 fun n4 => ix (mI u n1 (xN p0)) (mN u n4) (bd (f_X3_dutyAt self (mI u n1 (xN p0)) u) fun v1 u1 => if (mI u n3 (xN p0)) < ((mI u n4 (xN (mI u n1 (xN p0)))) + v1) then (gb 0 (some (0, u1))) else (gb 1 (some (1, u1))))))))
set_option maxHeartbeats 4000000 in
theorem ct_X3_canMill (self : Nat) (p0 : Int32) (t_self : kd self = 3) : zMet yX3_canMill cX3_canMill 3 (some .boolean) 5 90 rvI (obT) [.ref self, .int p0] (f_X3_canMill self p0) := by
  refine zMet_of (A := [(0, .ref self), (1, .int p0)]) (B := []) (ini := false) RX3 rfl (by decide +kernel) (fun h => by cases h) (by simp [lg_sl, Value.category]) (by simp [lv_args, Value.category]) rfl (by simp [lv_args, Value.category]) fun u => ?_
  unfold f_X3_canMill
  refine go_aload_n (pc := 0) (j := 0) (i := 0) dX3_canMill_0 rfl rfl ?_
  refine go_getR (pc := 1) (n := self) (ci := 3) (k := 20) (t := 13) fa_X3_63_3 t_self rfl dX3_canMill_1 fun r1 t_r1 => ?_
  refine go_iload_n (pc := 4) (j := 1) (i := 1) dX3_canMill_4 rfl rfl ?_
  refine go_oB fun n1 e_n1 => ?_
  have t_n1 := t_r1 n1 e_n1
  subst e_n1
  refine go_iald (pc := 5) t_n1 dX3_canMill_5 ?_
  refine go_istore_n (pc := 6) (j := 2) (i := 2) (A' := [(0, .ref self), (1, .int p0), (2, .int (mI u n1 (xN p0)))]) rfl (by decide) rfl rfl rfl dX3_canMill_6 ?_
  refine go_aload_n (pc := 7) (j := 0) (i := 0) dX3_canMill_7 rfl rfl ?_
  refine go_getR (pc := 8) (n := self) (ci := 3) (k := 10) (t := 13) fa_X3_33_3 t_self rfl dX3_canMill_8 fun r2 t_r2 => ?_
  refine go_iload_n (pc := 11) (j := 2) (i := 2) dX3_canMill_11 rfl rfl ?_
  refine go_oB fun n2 e_n2 => ?_
  have t_n2 := t_r2 n2 e_n2
  subst e_n2
  refine go_iald (pc := 12) t_n2 dX3_canMill_12 ?_
  refine go_if_le (pc := 13) (tgt := 41) dX3_canMill_13 (by decide) (fun h1 => ?_) (fun h1 => ?_)
  · refine go_iconst (pc := 41) (v := 0) dX3_canMill_41 (by decide) ?_
    exact go_zreturn (pc := 42) rfl dX3_canMill_42
  · refine go_aload_n (pc := 16) (j := 0) (i := 0) dX3_canMill_16 rfl rfl ?_
    refine go_getR (pc := 17) (n := self) (ci := 3) (k := 25) (t := 13) fa_X3_78_3 t_self rfl dX3_canMill_17 fun r3 t_r3 => ?_
    refine go_iload_n (pc := 20) (j := 1) (i := 1) dX3_canMill_20 rfl rfl ?_
    refine go_oB fun n3 e_n3 => ?_
    have t_n3 := t_r3 n3 e_n3
    subst e_n3
    refine go_iald (pc := 21) t_n3 dX3_canMill_21 ?_
    refine go_aload_n (pc := 22) (j := 0) (i := 0) dX3_canMill_22 rfl rfl ?_
    refine go_getR (pc := 23) (n := self) (ci := 3) (k := 12) (t := 13) fa_X3_39_3 t_self rfl dX3_canMill_23 fun r4 t_r4 => ?_
    refine go_iload_n (pc := 26) (j := 2) (i := 2) dX3_canMill_26 rfl rfl ?_
    refine go_oB fun n4 e_n4 => ?_
    have t_n4 := t_r4 n4 e_n4
    subst e_n4
    refine go_iald (pc := 27) t_n4 dX3_canMill_27 ?_
    refine go_aload_n (pc := 28) (j := 0) (i := 0) dX3_canMill_28 rfl rfl ?_
    refine go_iload_n (pc := 29) (j := 2) (i := 2) dX3_canMill_29 rfl rfl ?_
    refine go_callVI (pc := 30) (ci := 3) (ct_X3_dutyAt self (mI u n1 (xN p0)) t_self) lk_X3_534 rfl rfl rfl (by decide) t_self ⟨by decide, by decide⟩ (Nat.le_of_ble_eq_true rfl) dX3_canMill_30 rfl fun v1 u1 => ?_
    refine go_iadd (pc := 33) dX3_canMill_33 ?_
    refine go_icmp_lt (pc := 34) (tgt := 41) dX3_canMill_34 (by decide) (fun h2 => ?_) (fun h2 => ?_)
    · refine go_iconst (pc := 41) (v := 0) dX3_canMill_41 (by decide) ?_
      exact go_zreturn (pc := 42) rfl dX3_canMill_42
    · refine go_iconst (pc := 37) (v := 1) dX3_canMill_37 (by decide) ?_
      refine go_goto (pc := 38) (tgt := 42) dX3_canMill_38 (by decide) ?_
      exact go_zreturn (pc := 42) rfl dX3_canMill_42

def f_X3_likes (self : Nat) (p0 : Int32) (u : zM) : Option (Int32 × zM) := bd (f_X3_isHouse self p0 u) fun v1 u1 => if v1 = 0 then (some ((-1), u1)) else (lt (mR u1 self 20) fun r1 => oB r1 fun n1 => ix p0 (mN u1 n1) (lt (mR u1 self 11) fun r2 => oB r2 fun n2 => ix (mI u1 n1 (xN p0)) (mN u1 n2) (lt (mR u1 self 12) fun r3 => oB r3 fun n3 => ix (mI u1 n1 (xN p0)) (mN u1 n3) (bd (f_X3_dutyAt self (mI u1 n1 (xN p0)) u1) fun v2 u2 => lt (mR u2 self 13) fun r4 => oB r4 fun n4 => ix (mI u1 n1 (xN p0)) (mN u2 n4) (lt (fun (z1 : Int32) (u3 : zM) => lt (fun (u4 : zM) => bd (f_X3_canMill self p0 u4) fun v3 u5 => if v3 = 0 then (bd (f_X3_canHand self p0 u5) fun v4 u6 => if v4 = 0 then (some ((-1), u6)) else (some (0, u6))) else (some (1, u5))) fun j2 => if z1 = 0 then (j2 u3) else (bd (f_X3_canHand self p0 u3) fun v5 u7 => if v5 = 0 then (j2 u7) else (some (0, u7)))) fun j1 => if (((mI u1 n3 (xN (mI u1 n1 (xN p0)))) + v2) + (mI u2 n4 (xN (mI u1 n1 (xN p0))))) < (mI u1 n2 (xN (mI u1 n1 (xN p0)))) then (j1 0 u2) else (j1 1 u2))))))
set_option maxHeartbeats 4000000 in
theorem ct_X3_likes (self : Nat) (p0 : Int32) (t_self : kd self = 3) : zMet yX3_likes cX3_likes 4 (some .int) 6 112 rvI (obT) [.ref self, .int p0] (f_X3_likes self p0) := by
  refine zMet_of (A := [(0, .ref self), (1, .int p0)]) (B := []) (ini := false) RX3 rfl (by decide +kernel) (fun h => by cases h) (by simp [lg_sl, Value.category]) (by simp [lv_args, Value.category]) rfl (by simp [lv_args, Value.category]) fun u => ?_
  unfold f_X3_likes
  refine go_aload_n (pc := 0) (j := 0) (i := 0) dX3_likes_0 rfl rfl ?_
  refine go_iload_n (pc := 1) (j := 1) (i := 1) dX3_likes_1 rfl rfl ?_
  refine go_callVI (pc := 2) (ci := 3) (ct_X3_isHouse self p0 t_self) lk_X3_297 rfl rfl rfl (by decide) t_self ⟨by decide, by decide⟩ (Nat.le_of_ble_eq_true rfl) dX3_likes_2 rfl fun v1 u1 => ?_
  refine go_if_ne (pc := 5) (tgt := 10) dX3_likes_5 (by decide) (fun h1 => ?_) (fun h1 => ?_)
  · refine go_iconst (pc := 8) (v := (-1)) dX3_likes_8 (by decide) ?_
    exact go_ireturn (pc := 9) rfl dX3_likes_9
  · refine go_aload_n (pc := 10) (j := 0) (i := 0) dX3_likes_10 rfl rfl ?_
    refine go_getR (pc := 11) (n := self) (ci := 3) (k := 20) (t := 13) fa_X3_63_3 t_self rfl dX3_likes_11 fun r1 t_r1 => ?_
    refine go_iload_n (pc := 14) (j := 1) (i := 1) dX3_likes_14 rfl rfl ?_
    refine go_oB fun n1 e_n1 => ?_
    have t_n1 := t_r1 n1 e_n1
    subst e_n1
    refine go_iald (pc := 15) t_n1 dX3_likes_15 ?_
    refine go_istore_n (pc := 16) (j := 2) (i := 2) (A' := [(0, .ref self), (1, .int p0), (2, .int (mI u1 n1 (xN p0)))]) rfl (by decide) rfl rfl rfl dX3_likes_16 ?_
    refine go_aload_n (pc := 17) (j := 0) (i := 0) dX3_likes_17 rfl rfl ?_
    refine go_getR (pc := 18) (n := self) (ci := 3) (k := 11) (t := 13) fa_X3_36_3 t_self rfl dX3_likes_18 fun r2 t_r2 => ?_
    refine go_iload_n (pc := 21) (j := 2) (i := 2) dX3_likes_21 rfl rfl ?_
    refine go_oB fun n2 e_n2 => ?_
    have t_n2 := t_r2 n2 e_n2
    subst e_n2
    refine go_iald (pc := 22) t_n2 dX3_likes_22 ?_
    refine go_aload_n (pc := 23) (j := 0) (i := 0) dX3_likes_23 rfl rfl ?_
    refine go_getR (pc := 24) (n := self) (ci := 3) (k := 12) (t := 13) fa_X3_39_3 t_self rfl dX3_likes_24 fun r3 t_r3 => ?_
    refine go_iload_n (pc := 27) (j := 2) (i := 2) dX3_likes_27 rfl rfl ?_
    refine go_oB fun n3 e_n3 => ?_
    have t_n3 := t_r3 n3 e_n3
    subst e_n3
    refine go_iald (pc := 28) t_n3 dX3_likes_28 ?_
    refine go_aload_n (pc := 29) (j := 0) (i := 0) dX3_likes_29 rfl rfl ?_
    refine go_iload_n (pc := 30) (j := 2) (i := 2) dX3_likes_30 rfl rfl ?_
    refine go_callVI (pc := 31) (ci := 3) (ct_X3_dutyAt self (mI u1 n1 (xN p0)) t_self) lk_X3_534 rfl rfl rfl (by decide) t_self ⟨by decide, by decide⟩ (Nat.le_of_ble_eq_true rfl) dX3_likes_31 rfl fun v2 u2 => ?_
    refine go_iadd (pc := 34) dX3_likes_34 ?_
    refine go_aload_n (pc := 35) (j := 0) (i := 0) dX3_likes_35 rfl rfl ?_
    refine go_getR (pc := 36) (n := self) (ci := 3) (k := 13) (t := 13) fa_X3_42_3 t_self rfl dX3_likes_36 fun r4 t_r4 => ?_
    refine go_iload_n (pc := 39) (j := 2) (i := 2) dX3_likes_39 rfl rfl ?_
    refine go_oB fun n4 e_n4 => ?_
    have t_n4 := t_r4 n4 e_n4
    subst e_n4
    refine go_iald (pc := 40) t_n4 dX3_likes_40 ?_
    refine go_iadd (pc := 41) dX3_likes_41 ?_
    refine go_join1 (pcx := 50) (α1 := Int32) (fun z1 => [(0, .ref self), (1, .int p0)]) (fun z1 => []) (fun z1 => [.int z1]) (fun z1 => True) (fun z1 u3 _ => ?_) (fun j1 hj1 => ?_)
    · refine go_istore_n (pc := 50) (j := 3) (i := 3) (A' := [(0, .ref self), (1, .int p0), (3, .int z1)]) rfl (by decide) rfl rfl rfl dX3_likes_50 ?_
      refine go_iload_n (pc := 51) (j := 3) (i := 3) dX3_likes_51 rfl rfl ?_
      refine go_join0 (pcx := 65) ([(0, .ref self), (1, .int p0)]) ([]) ([]) (True) (fun u4 _ => ?_) (fun j2 hj2 => ?_)
      · refine go_aload_n (pc := 65) (j := 0) (i := 0) dX3_likes_65 rfl rfl ?_
        refine go_iload_n (pc := 66) (j := 1) (i := 1) dX3_likes_66 rfl rfl ?_
        refine go_callVI (pc := 67) (ci := 3) (ct_X3_canMill self p0 t_self) lk_X3_540 rfl rfl rfl (by decide) t_self ⟨by decide, by decide⟩ (Nat.le_of_ble_eq_true rfl) dX3_likes_67 rfl fun v3 u5 => ?_
        refine go_if_eq (pc := 70) (tgt := 75) dX3_likes_70 (by decide) (fun h2 => ?_) (fun h2 => ?_)
        · refine go_aload_n (pc := 75) (j := 0) (i := 0) dX3_likes_75 rfl rfl ?_
          refine go_iload_n (pc := 76) (j := 1) (i := 1) dX3_likes_76 rfl rfl ?_
          refine go_callVI (pc := 77) (ci := 3) (ct_X3_canHand self p0 t_self) lk_X3_537 rfl rfl rfl (by decide) t_self ⟨by decide, by decide⟩ (Nat.le_of_ble_eq_true rfl) dX3_likes_77 rfl fun v4 u6 => ?_
          refine go_if_eq (pc := 80) (tgt := 87) dX3_likes_80 (by decide) (fun h3 => ?_) (fun h3 => ?_)
          · refine go_iconst (pc := 87) (v := (-1)) dX3_likes_87 (by decide) ?_
            exact go_ireturn (pc := 88) rfl dX3_likes_88
          · refine go_iconst (pc := 83) (v := 0) dX3_likes_83 (by decide) ?_
            refine go_goto (pc := 84) (tgt := 88) dX3_likes_84 (by decide) ?_
            exact go_ireturn (pc := 88) rfl dX3_likes_88
        · refine go_iconst (pc := 73) (v := 1) dX3_likes_73 (by decide) ?_
          exact go_ireturn (pc := 74) rfl dX3_likes_74
      · refine go_if_eq (pc := 52) (tgt := 65) dX3_likes_52 (by decide) (fun h4 => ?_) (fun h4 => ?_)
        · exact go_weak (A' := [(0, .ref self), (1, .int p0)]) (B' := []) ⟨rfl, rfl, trivial⟩ rfl (fun q h => by cases h) (hj2 u3 trivial)
        · refine go_aload_n (pc := 55) (j := 0) (i := 0) dX3_likes_55 rfl rfl ?_
          refine go_iload_n (pc := 56) (j := 1) (i := 1) dX3_likes_56 rfl rfl ?_
          refine go_callVI (pc := 57) (ci := 3) (ct_X3_canHand self p0 t_self) lk_X3_537 rfl rfl rfl (by decide) t_self ⟨by decide, by decide⟩ (Nat.le_of_ble_eq_true rfl) dX3_likes_57 rfl fun v5 u7 => ?_
          refine go_if_eq (pc := 60) (tgt := 65) dX3_likes_60 (by decide) (fun h5 => ?_) (fun h5 => ?_)
          · exact go_weak (A' := [(0, .ref self), (1, .int p0)]) (B' := []) ⟨rfl, rfl, trivial⟩ rfl (fun q h => by cases h) (hj2 u7 trivial)
          · refine go_iconst (pc := 63) (v := 0) dX3_likes_63 (by decide) ?_
            exact go_ireturn (pc := 64) rfl dX3_likes_64
    · refine go_icmp_gt (pc := 42) (tgt := 49) dX3_likes_42 (by decide) (fun h6 => ?_) (fun h6 => ?_)
      · refine go_iconst (pc := 49) (v := 0) dX3_likes_49 (by decide) ?_
        exact go_weak (A' := [(0, .ref self), (1, .int p0)]) (B' := []) ⟨rfl, rfl, trivial⟩ rfl (fun q h => by cases h) (hj1 0 u2 trivial)
      · refine go_iconst (pc := 45) (v := 1) dX3_likes_45 (by decide) ?_
        refine go_goto (pc := 46) (tgt := 50) dX3_likes_46 (by decide) ?_
        exact go_weak (A' := [(0, .ref self), (1, .int p0)]) (B' := []) ⟨rfl, rfl, trivial⟩ rfl (fun q h => by cases h) (hj1 1 u2 trivial)

def f_X3_sold (self : Nat) (p0 : Int32) (p1 : Int32) (u : zM) : Option (Int32 × zM) := bd (f_X3_isVillage self p0 u) fun v1 u1 => if v1 = 0 then (some ((-1), u1)) else (bd (f_X3_in (Int32.toInt64 p1) 1 999 u1) fun v2 u2 => if v2 = 0 then (some ((-1), u2)) else (lt (mR u2 self 15) fun r1 => oB r1 fun n1 => ix p0 (mN u2 n1) (if ((mI u2 n1 (xN p0)) + p1) ≤ 9999 then (lt (mR u2 self 15) fun r2 => oB r2 fun n2 => ix p0 (mN u2 n2) (ix p0 (mN u2 n2) (lt (sI u2 n2 (xN p0) ((mI u2 n2 (xN p0)) + p1)) fun u3 => lt (mR u3 self 15) fun r3 => oB r3 fun n3 => ix p0 (mN u3 n3) (some ((mI u3 n3 (xN p0)), u3))))) else (some ((-1), u2)))))
set_option maxHeartbeats 4000000 in
theorem ct_X3_sold (self : Nat) (p0 : Int32) (p1 : Int32) (t_self : kd self = 3) : zMet yX3_sold cX3_sold 3 (some .int) 3 46 rvI (obT) [.ref self, .int p0, .int p1] (f_X3_sold self p0 p1) := by
  refine zMet_of (A := [(0, .ref self), (1, .int p0), (2, .int p1)]) (B := []) (ini := false) RX3 rfl (by decide +kernel) (fun h => by cases h) (by simp [lg_sl, Value.category]) (by simp [lv_args, Value.category]) rfl (by simp [lv_args, Value.category]) fun u => ?_
  unfold f_X3_sold
  refine go_aload_n (pc := 0) (j := 0) (i := 0) dX3_sold_0 rfl rfl ?_
  refine go_iload_n (pc := 1) (j := 1) (i := 1) dX3_sold_1 rfl rfl ?_
  refine go_callVI (pc := 2) (ci := 3) (ct_X3_isVillage self p0 t_self) lk_X3_289 rfl rfl rfl (by decide) t_self ⟨by decide, by decide⟩ (Nat.le_of_ble_eq_true rfl) dX3_sold_2 rfl fun v1 u1 => ?_
  refine go_if_eq (pc := 5) (tgt := 34) dX3_sold_5 (by decide) (fun h1 => ?_) (fun h1 => ?_)
  · refine go_iconst (pc := 34) (v := (-1)) dX3_sold_34 (by decide) ?_
    exact go_ireturn (pc := 35) rfl dX3_sold_35
  · refine go_iload_n (pc := 8) (j := 2) (i := 2) dX3_sold_8 rfl rfl ?_
    refine go_i2l (pc := 9) dX3_sold_9 ?_
    refine go_lconst (pc := 10) (v := 1) dX3_sold_10 (by decide) ?_
    refine go_ldc2 (pc := 11) (v := 999) dX3_sold_11 q1600 ?_
    refine go_callSI (pc := 14) (ct_X3_in (Int32.toInt64 p1) 1 999) lk_X3_274 rfl ⟨by decide, by decide⟩ (Nat.le_of_ble_eq_true rfl) dX3_sold_14 rfl fun v2 u2 => ?_
    refine go_if_eq (pc := 17) (tgt := 34) dX3_sold_17 (by decide) (fun h2 => ?_) (fun h2 => ?_)
    · refine go_iconst (pc := 34) (v := (-1)) dX3_sold_34 (by decide) ?_
      exact go_ireturn (pc := 35) rfl dX3_sold_35
    · refine go_aload_n (pc := 20) (j := 0) (i := 0) dX3_sold_20 rfl rfl ?_
      refine go_getR (pc := 21) (n := self) (ci := 3) (k := 15) (t := 13) fa_X3_48_3 t_self rfl dX3_sold_21 fun r1 t_r1 => ?_
      refine go_iload_n (pc := 24) (j := 1) (i := 1) dX3_sold_24 rfl rfl ?_
      refine go_oB fun n1 e_n1 => ?_
      have t_n1 := t_r1 n1 e_n1
      subst e_n1
      refine go_iald (pc := 25) t_n1 dX3_sold_25 ?_
      refine go_iload_n (pc := 26) (j := 2) (i := 2) dX3_sold_26 rfl rfl ?_
      refine go_iadd (pc := 27) dX3_sold_27 ?_
      refine go_sipush (pc := 28) (v := 9999) dX3_sold_28 (by decide) ?_
      refine go_icmp_le (pc := 31) (tgt := 36) dX3_sold_31 (by decide) (fun h3 => ?_) (fun h3 => ?_)
      · refine go_aload_n (pc := 36) (j := 0) (i := 0) dX3_sold_36 rfl rfl ?_
        refine go_getR (pc := 37) (n := self) (ci := 3) (k := 15) (t := 13) fa_X3_48_3 t_self rfl dX3_sold_37 fun r2 t_r2 => ?_
        refine go_iload_n (pc := 40) (j := 1) (i := 1) dX3_sold_40 rfl rfl ?_
        refine go_oB fun n2 e_n2 => ?_
        have t_n2 := t_r2 n2 e_n2
        subst e_n2
        refine go_dup2 (pc := 41) dX3_sold_41 ?_
        refine go_iald (pc := 42) t_n2 dX3_sold_42 ?_
        refine go_iload_n (pc := 43) (j := 2) (i := 2) dX3_sold_43 rfl rfl ?_
        refine go_iadd (pc := 44) dX3_sold_44 ?_
        refine go_iast (pc := 45) t_n2 dX3_sold_45 fun u3 => ?_
        refine go_aload_n (pc := 46) (j := 0) (i := 0) dX3_sold_46 rfl rfl ?_
        refine go_getR (pc := 47) (n := self) (ci := 3) (k := 15) (t := 13) fa_X3_48_3 t_self rfl dX3_sold_47 fun r3 t_r3 => ?_
        refine go_iload_n (pc := 50) (j := 1) (i := 1) dX3_sold_50 rfl rfl ?_
        refine go_oB fun n3 e_n3 => ?_
        have t_n3 := t_r3 n3 e_n3
        subst e_n3
        refine go_iald (pc := 51) t_n3 dX3_sold_51 ?_
        exact go_ireturn (pc := 52) rfl dX3_sold_52
      · refine go_iconst (pc := 34) (v := (-1)) dX3_sold_34 (by decide) ?_
        exact go_ireturn (pc := 35) rfl dX3_sold_35

def f_X3_falseOf (self : Nat) (p0 : Int32) (p1 : Int32) (u : zM) : Option (Int32 × zM) := lt (mR u self 15) fun r1 => oB r1 fun n1 => ix p0 (mN u n1) (if p1 = 0 then (lt (mR u self 16) fun r2 => oB r2 fun n2 => ix p0 (mN u n2) (bd (f_X3_least ((mI u n1 (xN p0)) - (mI u n2 (xN p0))) u) fun v1 u1 => some (v1, u1))) else (lt (mR u self 17) fun r3 => oB r3 fun n3 => ix p0 (mN u n3) (bd (f_X3_least ((mI u n1 (xN p0)) - (mI u n3 (xN p0))) u) fun v2 u2 => some (v2, u2))))
set_option maxHeartbeats 4000000 in
theorem ct_X3_falseOf (self : Nat) (p0 : Int32) (p1 : Int32) (t_self : kd self = 3) : zMet yX3_falseOf cX3_falseOf 3 (some .int) 2 20 rvI (obT) [.ref self, .int p0, .int p1] (f_X3_falseOf self p0 p1) := by
  refine zMet_of (A := [(0, .ref self), (1, .int p0), (2, .int p1)]) (B := []) (ini := false) RX3 rfl (by decide +kernel) (fun h => by cases h) (by simp [lg_sl, Value.category]) (by simp [lv_args, Value.category]) rfl (by simp [lv_args, Value.category]) fun u => ?_
  unfold f_X3_falseOf
  refine go_aload_n (pc := 0) (j := 0) (i := 0) dX3_falseOf_0 rfl rfl ?_
  refine go_getR (pc := 1) (n := self) (ci := 3) (k := 15) (t := 13) fa_X3_48_3 t_self rfl dX3_falseOf_1 fun r1 t_r1 => ?_
  refine go_iload_n (pc := 4) (j := 1) (i := 1) dX3_falseOf_4 rfl rfl ?_
  refine go_oB fun n1 e_n1 => ?_
  have t_n1 := t_r1 n1 e_n1
  subst e_n1
  refine go_iald (pc := 5) t_n1 dX3_falseOf_5 ?_
  refine go_iload_n (pc := 6) (j := 2) (i := 2) dX3_falseOf_6 rfl rfl ?_
  refine go_if_eq (pc := 7) (tgt := 19) dX3_falseOf_7 (by decide) (fun h1 => ?_) (fun h1 => ?_)
  · refine go_aload_n (pc := 19) (j := 0) (i := 0) dX3_falseOf_19 rfl rfl ?_
    refine go_getR (pc := 20) (n := self) (ci := 3) (k := 16) (t := 13) fa_X3_51_3 t_self rfl dX3_falseOf_20 fun r2 t_r2 => ?_
    refine go_iload_n (pc := 23) (j := 1) (i := 1) dX3_falseOf_23 rfl rfl ?_
    refine go_oB fun n2 e_n2 => ?_
    have t_n2 := t_r2 n2 e_n2
    subst e_n2
    refine go_iald (pc := 24) t_n2 dX3_falseOf_24 ?_
    refine go_isub (pc := 25) dX3_falseOf_25 ?_
    refine go_callSI (pc := 26) (ct_X3_least ((mI u n1 (xN p0)) - (mI u n2 (xN p0)))) lk_X3_448 rfl ⟨by decide, by decide⟩ (Nat.le_of_ble_eq_true rfl) dX3_falseOf_26 rfl fun v1 u1 => ?_
    exact go_ireturn (pc := 29) rfl dX3_falseOf_29
  · refine go_aload_n (pc := 10) (j := 0) (i := 0) dX3_falseOf_10 rfl rfl ?_
    refine go_getR (pc := 11) (n := self) (ci := 3) (k := 17) (t := 13) fa_X3_54_3 t_self rfl dX3_falseOf_11 fun r3 t_r3 => ?_
    refine go_iload_n (pc := 14) (j := 1) (i := 1) dX3_falseOf_14 rfl rfl ?_
    refine go_oB fun n3 e_n3 => ?_
    have t_n3 := t_r3 n3 e_n3
    subst e_n3
    refine go_iald (pc := 15) t_n3 dX3_falseOf_15 ?_
    refine go_goto (pc := 16) (tgt := 25) dX3_falseOf_16 (by decide) ?_
    refine go_isub (pc := 25) dX3_falseOf_25 ?_
    refine go_callSI (pc := 26) (ct_X3_least ((mI u n1 (xN p0)) - (mI u n3 (xN p0)))) lk_X3_448 rfl ⟨by decide, by decide⟩ (Nat.le_of_ble_eq_true rfl) dX3_falseOf_26 rfl fun v2 u2 => ?_
    exact go_ireturn (pc := 29) rfl dX3_falseOf_29

def f_X3_wrong (self : Nat) (p0 : Int32) (p1 : Int32) (u : zM) : Option (Int32 × zM) := bd (f_X3_isVillage self p0 u) fun v1 u1 => if v1 = 0 then (some ((-1), u1)) else (bd (f_X3_falseOf self p0 p1 u1) fun v2 u2 => some (v2, u2))
set_option maxHeartbeats 4000000 in
theorem ct_X3_wrong (self : Nat) (p0 : Int32) (p1 : Int32) (t_self : kd self = 3) : zMet yX3_wrong cX3_wrong 3 (some .int) 3 46 rvI (obT) [.ref self, .int p0, .int p1] (f_X3_wrong self p0 p1) := by
  refine zMet_of (A := [(0, .ref self), (1, .int p0), (2, .int p1)]) (B := []) (ini := false) RX3 rfl (by decide +kernel) (fun h => by cases h) (by simp [lg_sl, Value.category]) (by simp [lv_args, Value.category]) rfl (by simp [lv_args, Value.category]) fun u => ?_
  unfold f_X3_wrong
  refine go_aload_n (pc := 0) (j := 0) (i := 0) dX3_wrong_0 rfl rfl ?_
  refine go_iload_n (pc := 1) (j := 1) (i := 1) dX3_wrong_1 rfl rfl ?_
  refine go_callVI (pc := 2) (ci := 3) (ct_X3_isVillage self p0 t_self) lk_X3_289 rfl rfl rfl (by decide) t_self ⟨by decide, by decide⟩ (Nat.le_of_ble_eq_true rfl) dX3_wrong_2 rfl fun v1 u1 => ?_
  refine go_if_eq (pc := 5) (tgt := 17) dX3_wrong_5 (by decide) (fun h1 => ?_) (fun h1 => ?_)
  · refine go_iconst (pc := 17) (v := (-1)) dX3_wrong_17 (by decide) ?_
    exact go_ireturn (pc := 18) rfl dX3_wrong_18
  · refine go_aload_n (pc := 8) (j := 0) (i := 0) dX3_wrong_8 rfl rfl ?_
    refine go_iload_n (pc := 9) (j := 1) (i := 1) dX3_wrong_9 rfl rfl ?_
    refine go_iload_n (pc := 10) (j := 2) (i := 2) dX3_wrong_10 rfl rfl ?_
    refine go_callVI (pc := 11) (ci := 3) (ct_X3_falseOf self p0 p1 t_self) lk_X3_549 rfl rfl rfl (by decide) t_self ⟨by decide, by decide⟩ (Nat.le_of_ble_eq_true rfl) dX3_wrong_11 rfl fun v2 u2 => ?_
    refine go_goto (pc := 14) (tgt := 18) dX3_wrong_14 (by decide) ?_
    exact go_ireturn (pc := 18) rfl dX3_wrong_18

def f_X3_look_L6 (x0 : Nat) : Nat → Int32 → Int32 → Int32 → zM → Option (Int32 × zM)
  | 0, _, _, _, _ => none
  | n + 1, x1, x2, x3, u => if (mI u x0 1) ≤ x3 then (some (x1, u)) else (bd (f_X3_falseOf x0 x3 1 u) fun v1 u1 => bd (f_X3_falseOf x0 x3 0 u1) fun v2 u2 => lt (fun (z1 : Int32) (z2 : Int32) (u3 : zM) => f_X3_look_L6 x0 n z1 z2 (x3 + 1) u3) fun j1 => if x2 < (v1 - v2) then (j1 x3 (v1 - v2) u2) else (j1 x1 x2 u2))
section
variable {c0 s0 : Nat} {tbv : List ExceptionTableEntry}
set_option maxHeartbeats 4000000 in
theorem g_X3_look_L6 (x0 : Nat) (t_x0 : kd x0 = 3) : ∀ (n : Nat) (x1 : Int32) (x2 : Int32) (x3 : Int32) (u : zM), Go RX3 cX3_look 5 (some .int) false 3 42 [] (obT) (zQ rvI) c0 s0 6 [(0, .ref x0), (1, .int x1), (2, .int x2), (3, .int x3)] [] [] u (f_X3_look_L6 x0 n x1 x2 x3 u) := by
  intro n
  induction n with
  | zero => intros; exact go_none
  | succ n ih =>
    intro x1 x2 x3 u
    unfold f_X3_look_L6
    refine go_iload_n (pc := 6) (j := 3) (i := 3) dX3_look_6 rfl rfl ?_
    refine go_aload_n (pc := 7) (j := 0) (i := 0) dX3_look_7 rfl rfl ?_
    refine go_getI (pc := 8) (n := x0) (ci := 3) (k := 1) fa_X3_270_3 t_x0 rfl dX3_look_8 ?_
    refine go_icmp_ge (pc := 11) (tgt := 49) dX3_look_11 (by decide) (fun h1 => ?_) (fun h1 => ?_)
    · refine go_iload_n (pc := 49) (j := 1) (i := 1) dX3_look_49 rfl rfl ?_
      exact go_ireturn (pc := 50) rfl dX3_look_50
    · refine go_aload_n (pc := 14) (j := 0) (i := 0) dX3_look_14 rfl rfl ?_
      refine go_iload_n (pc := 15) (j := 3) (i := 3) dX3_look_15 rfl rfl ?_
      refine go_iconst (pc := 16) (v := 1) dX3_look_16 (by decide) ?_
      refine go_callVI (pc := 17) (ci := 3) (ct_X3_falseOf x0 x3 1 t_x0) lk_X3_549 rfl rfl rfl (by decide) t_x0 ⟨by decide, by decide⟩ (Nat.le_of_ble_eq_true rfl) dX3_look_17 rfl fun v1 u1 => ?_
      refine go_aload_n (pc := 20) (j := 0) (i := 0) dX3_look_20 rfl rfl ?_
      refine go_iload_n (pc := 21) (j := 3) (i := 3) dX3_look_21 rfl rfl ?_
      refine go_iconst (pc := 22) (v := 0) dX3_look_22 (by decide) ?_
      refine go_callVI (pc := 23) (ci := 3) (ct_X3_falseOf x0 x3 0 t_x0) lk_X3_549 rfl rfl rfl (by decide) t_x0 ⟨by decide, by decide⟩ (Nat.le_of_ble_eq_true rfl) dX3_look_23 rfl fun v2 u2 => ?_
      refine go_isub (pc := 26) dX3_look_26 ?_
      refine go_istore (pc := 27) (i := 4) (A' := [(0, .ref x0), (1, .int x1), (2, .int x2), (3, .int x3), (4, .int (v1 - v2))]) (by decide) rfl rfl rfl dX3_look_27 ?_
      refine go_iload (pc := 29) (i := 4) dX3_look_29 rfl ?_
      refine go_iload_n (pc := 31) (j := 2) (i := 2) dX3_look_31 rfl rfl ?_
      refine go_join2 (pcx := 43) (α1 := Int32) (α2 := Int32) (fun z1 z2 => [(0, .ref x0), (1, .int z1), (2, .int z2), (3, .int x3)]) (fun z1 z2 => []) (fun z1 z2 => []) (fun z1 z2 => True) (fun z1 z2 u3 _ => ?_) (fun j1 hj1 => ?_)
      · refine go_iinc (pc := 43) (i := 3) (w := 1) (A' := [(0, .ref x0), (1, .int z1), (2, .int z2), (3, .int (x3 + 1))]) rfl (by decide) (by decide) rfl rfl rfl dX3_look_43 ?_
        refine go_goto (pc := 46) (tgt := 6) dX3_look_46 (by decide) ?_
        exact go_weak (A' := [(0, .ref x0), (1, .int z1), (2, .int z2), (3, .int (x3 + 1))]) (B' := []) ⟨rfl, rfl, rfl, rfl, trivial⟩ rfl (fun q h => by cases h) (ih z1 z2 (x3 + 1) u3)
      · refine go_icmp_gt (pc := 32) (tgt := 38) dX3_look_32 (by decide) (fun h2 => ?_) (fun h2 => ?_)
        · refine go_iload (pc := 38) (i := 4) dX3_look_38 rfl ?_
          refine go_istore_n (pc := 40) (j := 2) (i := 2) (A' := [(0, .ref x0), (1, .int x1), (2, .int (v1 - v2)), (3, .int x3), (4, .int (v1 - v2))]) rfl (by decide) rfl rfl rfl dX3_look_40 ?_
          refine go_iload_n (pc := 41) (j := 3) (i := 3) dX3_look_41 rfl rfl ?_
          refine go_istore_n (pc := 42) (j := 1) (i := 1) (A' := [(0, .ref x0), (1, .int x3), (2, .int (v1 - v2)), (3, .int x3), (4, .int (v1 - v2))]) rfl (by decide) rfl rfl rfl dX3_look_42 ?_
          exact go_weak (A' := [(0, .ref x0), (1, .int x3), (2, .int (v1 - v2)), (3, .int x3)]) (B' := []) ⟨rfl, rfl, rfl, rfl, trivial⟩ rfl (fun q h => by cases h) (hj1 x3 (v1 - v2) u2 trivial)
        · refine go_goto (pc := 35) (tgt := 43) dX3_look_35 (by decide) ?_
          exact go_weak (A' := [(0, .ref x0), (1, .int x1), (2, .int x2), (3, .int x3)]) (B' := []) ⟨rfl, rfl, rfl, rfl, trivial⟩ rfl (fun q h => by cases h) (hj1 x1 x2 u2 trivial)
end
def f_X3_look (self : Nat) (u : zM) : Option (Int32 × zM) := f_X3_look_L6 self zFu (-1) 0 0 u
set_option maxHeartbeats 4000000 in
theorem ct_X3_look (self : Nat) (t_self : kd self = 3) : zMet yX3_look cX3_look 5 (some .int) 3 42 rvI (obT) [.ref self] (f_X3_look self) := by
  refine zMet_of (A := [(0, .ref self)]) (B := []) (ini := false) RX3 rfl (by decide +kernel) (fun h => by cases h) (by simp [lg_sl, Value.category]) (by simp [lv_args, Value.category]) rfl (by simp [lv_args, Value.category]) fun u => ?_
  unfold f_X3_look
  refine go_iconst (pc := 0) (v := (-1)) dX3_look_0 (by decide) ?_
  refine go_istore_n (pc := 1) (j := 1) (i := 1) (A' := [(0, .ref self), (1, .int (-1))]) rfl (by decide) rfl rfl rfl dX3_look_1 ?_
  refine go_iconst (pc := 2) (v := 0) dX3_look_2 (by decide) ?_
  refine go_istore_n (pc := 3) (j := 2) (i := 2) (A' := [(0, .ref self), (1, .int (-1)), (2, .int 0)]) rfl (by decide) rfl rfl rfl dX3_look_3 ?_
  refine go_iconst (pc := 4) (v := 0) dX3_look_4 (by decide) ?_
  refine go_istore_n (pc := 5) (j := 3) (i := 3) (A' := [(0, .ref self), (1, .int (-1)), (2, .int 0), (3, .int 0)]) rfl (by decide) rfl rfl rfl dX3_look_5 ?_
  exact go_weak (A' := [(0, .ref self), (1, .int (-1)), (2, .int 0), (3, .int 0)]) (B' := []) ⟨rfl, rfl, rfl, rfl, trivial⟩ rfl (fun q h => by cases h) (g_X3_look_L6 self t_self zFu (-1) 0 0 u)

def f_X3_asIs_L2 (x0 : Nat) (k28 : zM → Option (Unit × zM)) : Nat → Int32 → zM → Option (Unit × zM)
  | 0, _, _ => none
  | n + 1, x1, u => if (mI u x0 1) ≤ x1 then (k28 u) else (lt (mR u x0 66) fun r1 => lt (mR u x0 7) fun r2 => oB r2 fun n1 => ix x1 (mN u n1) (oB r1 fun n2 => ix x1 (mN u n2) (lt (sI u n2 (xN x1) (mI u n1 (xN x1))) fun u1 => f_X3_asIs_L2 x0 k28 n (x1 + 1) u1)))
section
variable {c0 s0 : Nat} {tbv : List ExceptionTableEntry}
set_option maxHeartbeats 4000000 in
theorem g_X3_asIs_L2 (x0 : Nat) (k28 : zM → Option (Unit × zM)) (t_x0 : kd x0 = 3) (hk28 : ∀ (u : zM), Go RX3 cX3_asIs 2 (none) false 1 0 [] (obT) (zQ rvV) c0 s0 28 [(0, .ref x0)] [] [] u (k28 u)) : ∀ (n : Nat) (x1 : Int32) (u : zM), Go RX3 cX3_asIs 2 (none) false 1 0 [] (obT) (zQ rvV) c0 s0 2 [(0, .ref x0), (1, .int x1)] [] [] u (f_X3_asIs_L2 x0 k28 n x1 u) := by
  intro n
  induction n with
  | zero => intros; exact go_none
  | succ n ih =>
    intro x1 u
    unfold f_X3_asIs_L2
    refine go_iload_n (pc := 2) (j := 1) (i := 1) dX3_asIs_2 rfl rfl ?_
    refine go_aload_n (pc := 3) (j := 0) (i := 0) dX3_asIs_3 rfl rfl ?_
    refine go_getI (pc := 4) (n := x0) (ci := 3) (k := 1) fa_X3_270_3 t_x0 rfl dX3_asIs_4 ?_
    refine go_icmp_ge (pc := 7) (tgt := 28) dX3_asIs_7 (by decide) (fun h1 => ?_) (fun h1 => ?_)
    · exact go_weak (A' := [(0, .ref x0)]) (B' := []) ⟨rfl, trivial⟩ rfl (fun q h => by cases h) (hk28 u)
    · refine go_aload_n (pc := 10) (j := 0) (i := 0) dX3_asIs_10 rfl rfl ?_
      refine go_getR (pc := 11) (n := x0) (ci := 3) (k := 66) (t := 13) fa_X3_206_3 t_x0 rfl dX3_asIs_11 fun r1 t_r1 => ?_
      refine go_iload_n (pc := 14) (j := 1) (i := 1) dX3_asIs_14 rfl rfl ?_
      refine go_aload_n (pc := 15) (j := 0) (i := 0) dX3_asIs_15 rfl rfl ?_
      refine go_getR (pc := 16) (n := x0) (ci := 3) (k := 7) (t := 13) fa_X3_24_3 t_x0 rfl dX3_asIs_16 fun r2 t_r2 => ?_
      refine go_iload_n (pc := 19) (j := 1) (i := 1) dX3_asIs_19 rfl rfl ?_
      refine go_oB fun n1 e_n1 => ?_
      have t_n1 := t_r2 n1 e_n1
      subst e_n1
      refine go_iald (pc := 20) t_n1 dX3_asIs_20 ?_
      refine go_oB fun n2 e_n2 => ?_
      have t_n2 := t_r1 n2 e_n2
      subst e_n2
      refine go_iast (pc := 21) t_n2 dX3_asIs_21 fun u1 => ?_
      refine go_iinc (pc := 22) (i := 1) (w := 1) (A' := [(0, .ref x0), (1, .int (x1 + 1))]) rfl (by decide) (by decide) rfl rfl rfl dX3_asIs_22 ?_
      refine go_goto (pc := 25) (tgt := 2) dX3_asIs_25 (by decide) ?_
      exact go_weak (A' := [(0, .ref x0), (1, .int (x1 + 1))]) (B' := []) ⟨rfl, rfl, trivial⟩ rfl (fun q h => by cases h) (ih (x1 + 1) u1)
end
def f_X3_asIs_L30 (x0 : Nat) : Nat → Int32 → zM → Option (Unit × zM)
  | 0, _, _ => none
  | n + 1, x1, u => if (mI u x0 2) ≤ x1 then (some ((), u)) else (lt (mR u x0 67) fun r3 => lt (mR u x0 21) fun r4 => oB r4 fun n3 => ix x1 (mN u n3) (oB r3 fun n4 => ix x1 (mN u n4) (lt (sI u n4 (xN x1) (mI u n3 (xN x1))) fun u3 => lt (mR u3 x0 68) fun r5 => lt (mR u3 x0 22) fun r6 => oB r6 fun n5 => ix x1 (mN u3 n5) (oB r5 fun n6 => ix x1 (mN u3 n6) (lt (sI u3 n6 (xN x1) (mI u3 n5 (xN x1))) fun u4 => f_X3_asIs_L30 x0 n (x1 + 1) u4)))))
section
variable {c0 s0 : Nat} {tbv : List ExceptionTableEntry}
set_option maxHeartbeats 4000000 in
theorem g_X3_asIs_L30 (x0 : Nat) (t_x0 : kd x0 = 3) : ∀ (n : Nat) (x1 : Int32) (u : zM), Go RX3 cX3_asIs 2 (none) false 1 0 [] (obT) (zQ rvV) c0 s0 30 [(0, .ref x0), (1, .int x1)] [] [] u (f_X3_asIs_L30 x0 n x1 u) := by
  intro n
  induction n with
  | zero => intros; exact go_none
  | succ n ih =>
    intro x1 u
    unfold f_X3_asIs_L30
    refine go_iload_n (pc := 30) (j := 1) (i := 1) dX3_asIs_30 rfl rfl ?_
    refine go_aload_n (pc := 31) (j := 0) (i := 0) dX3_asIs_31 rfl rfl ?_
    refine go_getI (pc := 32) (n := x0) (ci := 3) (k := 2) fa_X3_278_3 t_x0 rfl dX3_asIs_32 ?_
    refine go_icmp_ge (pc := 35) (tgt := 68) dX3_asIs_35 (by decide) (fun h2 => ?_) (fun h2 => ?_)
    · exact go_vreturn (pc := 68) rfl dX3_asIs_68
    · refine go_aload_n (pc := 38) (j := 0) (i := 0) dX3_asIs_38 rfl rfl ?_
      refine go_getR (pc := 39) (n := x0) (ci := 3) (k := 67) (t := 13) fa_X3_209_3 t_x0 rfl dX3_asIs_39 fun r3 t_r3 => ?_
      refine go_iload_n (pc := 42) (j := 1) (i := 1) dX3_asIs_42 rfl rfl ?_
      refine go_aload_n (pc := 43) (j := 0) (i := 0) dX3_asIs_43 rfl rfl ?_
      refine go_getR (pc := 44) (n := x0) (ci := 3) (k := 21) (t := 13) fa_X3_66_3 t_x0 rfl dX3_asIs_44 fun r4 t_r4 => ?_
      refine go_iload_n (pc := 47) (j := 1) (i := 1) dX3_asIs_47 rfl rfl ?_
      refine go_oB fun n3 e_n3 => ?_
      have t_n3 := t_r4 n3 e_n3
      subst e_n3
      refine go_iald (pc := 48) t_n3 dX3_asIs_48 ?_
      refine go_oB fun n4 e_n4 => ?_
      have t_n4 := t_r3 n4 e_n4
      subst e_n4
      refine go_iast (pc := 49) t_n4 dX3_asIs_49 fun u3 => ?_
      refine go_aload_n (pc := 50) (j := 0) (i := 0) dX3_asIs_50 rfl rfl ?_
      refine go_getR (pc := 51) (n := x0) (ci := 3) (k := 68) (t := 13) fa_X3_212_3 t_x0 rfl dX3_asIs_51 fun r5 t_r5 => ?_
      refine go_iload_n (pc := 54) (j := 1) (i := 1) dX3_asIs_54 rfl rfl ?_
      refine go_aload_n (pc := 55) (j := 0) (i := 0) dX3_asIs_55 rfl rfl ?_
      refine go_getR (pc := 56) (n := x0) (ci := 3) (k := 22) (t := 13) fa_X3_69_3 t_x0 rfl dX3_asIs_56 fun r6 t_r6 => ?_
      refine go_iload_n (pc := 59) (j := 1) (i := 1) dX3_asIs_59 rfl rfl ?_
      refine go_oB fun n5 e_n5 => ?_
      have t_n5 := t_r6 n5 e_n5
      subst e_n5
      refine go_iald (pc := 60) t_n5 dX3_asIs_60 ?_
      refine go_oB fun n6 e_n6 => ?_
      have t_n6 := t_r5 n6 e_n6
      subst e_n6
      refine go_iast (pc := 61) t_n6 dX3_asIs_61 fun u4 => ?_
      refine go_iinc (pc := 62) (i := 1) (w := 1) (A' := [(0, .ref x0), (1, .int (x1 + 1))]) rfl (by decide) (by decide) rfl rfl rfl dX3_asIs_62 ?_
      refine go_goto (pc := 65) (tgt := 30) dX3_asIs_65 (by decide) ?_
      exact go_weak (A' := [(0, .ref x0), (1, .int (x1 + 1))]) (B' := []) ⟨rfl, rfl, trivial⟩ rfl (fun q h => by cases h) (ih (x1 + 1) u4)
end
def f_X3_asIs (self : Nat) (u : zM) : Option (Unit × zM) := f_X3_asIs_L2 self (fun u2 => f_X3_asIs_L30 self zFu 0 u2) zFu 0 u
set_option maxHeartbeats 4000000 in
theorem ct_X3_asIs (self : Nat) (t_self : kd self = 3) : zMet yX3_asIs cX3_asIs 2 (none) 1 0 rvV (obT) [.ref self] (f_X3_asIs self) := by
  refine zMet_of (A := [(0, .ref self)]) (B := []) (ini := false) RX3 rfl (by decide +kernel) (fun h => by cases h) (by simp [lg_sl, Value.category]) (by simp [lv_args, Value.category]) rfl (by simp [lv_args, Value.category]) fun u => ?_
  unfold f_X3_asIs
  refine go_iconst (pc := 0) (v := 0) dX3_asIs_0 (by decide) ?_
  refine go_istore_n (pc := 1) (j := 1) (i := 1) (A' := [(0, .ref self), (1, .int 0)]) rfl (by decide) rfl rfl rfl dX3_asIs_1 ?_
  refine go_weak (A' := [(0, .ref self), (1, .int 0)]) (B' := []) ⟨rfl, rfl, trivial⟩ rfl (fun q h => by cases h) (g_X3_asIs_L2 self _ t_self ?_ zFu 0 u)
  · intro u2
    refine go_iconst (pc := 28) (v := 0) dX3_asIs_28 (by decide) ?_
    refine go_istore_n (pc := 29) (j := 1) (i := 1) (A' := [(0, .ref self), (1, .int 0)]) rfl (by decide) rfl rfl rfl dX3_asIs_29 ?_
    exact go_weak (A' := [(0, .ref self), (1, .int 0)]) (B' := []) ⟨rfl, rfl, trivial⟩ rfl (fun q h => by cases h) (g_X3_asIs_L30 self t_self zFu 0 u2)

