set_option maxRecDepth 100000
def f_X3_tries_L15 (rc : Nat → Int32 → zM → Option (Unit × zM)) (x0 : Nat) (x1 : Int32) (k57 : zM → Option (Unit × zM)) : Nat → Int32 → zM → Option (Unit × zM)
  | 0, _, _ => none
  | n + 1, x2, u => if (mI u x0 87) ≤ x2 then (k57 u) else (lt (mR u x0 84) fun r1 => oB r1 fun n1 => ix x1 (mN u n1) (lt (mR u n1 (xN x1)) fun r2 => oB r2 fun n2 => ix x2 (mN u n2) (lt (fun (u2 : zM) => f_X3_tries_L15 rc x0 x1 k57 n (x2 + 1) u2) fun j1 => if (mI u n2 (xN x2)) = 0 then (j1 u) else (lt (mR u x0 82) fun r3 => oB r3 fun n3 => ix x1 (mN u n3) (lt (sI u n3 (xN x1) x2) fun u3 => bd (rc x0 (x1 + 1) u3) fun v2 u4 => j1 u4)))))
section
variable {c0 s0 : Nat} {tbv : List ExceptionTableEntry}
set_option maxHeartbeats 4000000 in
theorem g_X3_tries_L15 (rc : Nat → Int32 → zM → Option (Unit × zM)) (x0 : Nat) (x1 : Int32) (k57 : zM → Option (Unit × zM)) {FRm LOm Frc Lrc : Nat} (hrc : ∀ (self : Nat) (p0 : Int32), kd self = 3 → zMet yX3_tries cX3_tries 3 (none) Frc Lrc rvV (obT) [.ref self, .int p0] (rc self p0)) (hFrc : Frc ≤ FRm) (hLrc : Lrc ≤ LOm) (t_x0 : kd x0 = 3) (hk57 : ∀ (u : zM), Go RX3 cX3_tries 3 (none) false (FRm + 2) (LOm + 26) [] (obT) (zQ rvV) c0 s0 57 [(0, .ref x0), (1, .int x1)] [] [] u (k57 u)) : ∀ (n : Nat) (x2 : Int32) (u : zM), Go RX3 cX3_tries 3 (none) false (FRm + 2) (LOm + 26) [] (obT) (zQ rvV) c0 s0 15 [(0, .ref x0), (1, .int x1), (2, .int x2)] [] [] u (f_X3_tries_L15 rc x0 x1 k57 n x2 u) := by
  intro n
  induction n with
  | zero => intros; exact go_none
  | succ n ih =>
    intro x2 u
    unfold f_X3_tries_L15
    refine go_iload_n (pc := 15) (j := 2) (i := 2) dX3_tries_15 rfl rfl ?_
    refine go_aload_n (pc := 16) (j := 0) (i := 0) dX3_tries_16 rfl rfl ?_
    refine go_getI (pc := 17) (n := x0) (ci := 3) (k := 87) fa_X3_507_3 t_x0 rfl dX3_tries_17 ?_
    refine go_icmp_ge (pc := 20) (tgt := 57) dX3_tries_20 (by decide) (fun h2 => ?_) (fun h2 => ?_)
    · exact go_weak (A' := [(0, .ref x0), (1, .int x1)]) (B' := []) ⟨rfl, rfl, trivial⟩ rfl (fun q h => by cases h) (hk57 u)
    · refine go_aload_n (pc := 23) (j := 0) (i := 0) dX3_tries_23 rfl rfl ?_
      refine go_getR (pc := 24) (n := x0) (ci := 3) (k := 84) (t := 25) fa_X3_251_3 t_x0 rfl dX3_tries_24 fun r1 t_r1 => ?_
      refine go_iload_n (pc := 27) (j := 1) (i := 1) dX3_tries_27 rfl rfl ?_
      refine go_oB fun n1 e_n1 => ?_
      have t_n1 := t_r1 n1 e_n1
      subst e_n1
      refine go_aald (pc := 28) (n := n1) (ci := 25) (t := 15) (by decide) (by decide) t_n1 rfl dX3_tries_28 fun r2 t_r2 => ?_
      refine go_iload_n (pc := 29) (j := 2) (i := 2) dX3_tries_29 rfl rfl ?_
      refine go_oB fun n2 e_n2 => ?_
      have t_n2 := t_r2 n2 e_n2
      subst e_n2
      refine go_zald (pc := 30) t_n2 dX3_tries_30 ?_
      refine go_join0 (pcx := 51) ([(0, .ref x0), (1, .int x1), (2, .int x2)]) ([]) ([]) (True) (fun u2 _ => ?_) (fun j1 hj1 => ?_)
      · refine go_iinc (pc := 51) (i := 2) (w := 1) (A' := [(0, .ref x0), (1, .int x1), (2, .int (x2 + 1))]) rfl (by decide) (by decide) rfl rfl rfl dX3_tries_51 ?_
        refine go_goto (pc := 54) (tgt := 15) dX3_tries_54 (by decide) ?_
        exact go_weak (A' := [(0, .ref x0), (1, .int x1), (2, .int (x2 + 1))]) (B' := []) ⟨rfl, rfl, rfl, trivial⟩ rfl (fun q h => by cases h) (ih (x2 + 1) u2)
      · refine go_if_ne (pc := 31) (tgt := 37) dX3_tries_31 (by decide) (fun h3 => ?_) (fun h3 => ?_)
        · refine go_goto (pc := 34) (tgt := 51) dX3_tries_34 (by decide) ?_
          exact go_weak (A' := [(0, .ref x0), (1, .int x1), (2, .int x2)]) (B' := []) ⟨rfl, rfl, rfl, trivial⟩ rfl (fun q h => by cases h) (hj1 u trivial)
        · refine go_aload_n (pc := 37) (j := 0) (i := 0) dX3_tries_37 rfl rfl ?_
          refine go_getR (pc := 38) (n := x0) (ci := 3) (k := 82) (t := 13) fa_X3_243_3 t_x0 rfl dX3_tries_38 fun r3 t_r3 => ?_
          refine go_iload_n (pc := 41) (j := 1) (i := 1) dX3_tries_41 rfl rfl ?_
          refine go_iload_n (pc := 42) (j := 2) (i := 2) dX3_tries_42 rfl rfl ?_
          refine go_oB fun n3 e_n3 => ?_
          have t_n3 := t_r3 n3 e_n3
          subst e_n3
          refine go_iast (pc := 43) t_n3 dX3_tries_43 fun u3 => ?_
          refine go_aload_n (pc := 44) (j := 0) (i := 0) dX3_tries_44 rfl rfl ?_
          refine go_iload_n (pc := 45) (j := 1) (i := 1) dX3_tries_45 rfl rfl ?_
          refine go_iconst (pc := 46) (v := 1) dX3_tries_46 (by decide) ?_
          refine go_iadd (pc := 47) dX3_tries_47 ?_
          refine go_callVV (pc := 48) (ci := 3) (hrc x0 (x1 + 1) t_x0) lk_X3_522 rfl rfl rfl (by decide) t_x0 ⟨by omega, by omega⟩ (Nat.le_of_ble_eq_true rfl) dX3_tries_48 rfl fun v2 u4 => ?_
          exact go_weak (A' := [(0, .ref x0), (1, .int x1), (2, .int x2)]) (B' := []) ⟨rfl, rfl, rfl, trivial⟩ rfl (fun q h => by cases h) (hj1 u4 trivial)
end
def b_X3_tries (rc : Nat → Int32 → zM → Option (Unit × zM)) (self : Nat) (p0 : Int32) (u : zM) : Option (Unit × zM) := if p0 = (mI u self 86) then (bd (f_X3_looks self u) fun v1 u1 => some ((), u1)) else (f_X3_tries_L15 rc self p0 (fun u5 => lt (mR u5 self 82) fun r4 => oB r4 fun n4 => ix p0 (mN u5 n4) (lt (sI u5 n4 (xN p0) (-1)) fun u6 => bd (rc self (p0 + 1) u6) fun v3 u7 => some ((), u7))) zFu 0 u)
set_option maxHeartbeats 4000000 in
theorem cb_X3_tries (rc : Nat → Int32 → zM → Option (Unit × zM)) {FRm LOm Frc Lrc : Nat} (hrc : ∀ (self : Nat) (p0 : Int32), kd self = 3 → zMet yX3_tries cX3_tries 3 (none) Frc Lrc rvV (obT) [.ref self, .int p0] (rc self p0)) (hFrc : Frc ≤ FRm) (hLrc : Lrc ≤ LOm) (self : Nat) (p0 : Int32) (t_self : kd self = 3) : zMet yX3_tries cX3_tries 3 (none) (FRm + 2) (LOm + 26) rvV (obT) [.ref self, .int p0] (b_X3_tries rc self p0) := by
  refine zMet_of (A := [(0, .ref self), (1, .int p0)]) (B := []) (ini := false) RX3 rfl (by decide +kernel) (fun h => by cases h) (by simp [lg_sl, Value.category]) (by simp [lv_args, Value.category]) rfl (by simp [lv_args, Value.category]) fun u => ?_
  unfold b_X3_tries
  refine go_iload_n (pc := 0) (j := 1) (i := 1) dX3_tries_0 rfl rfl ?_
  refine go_aload_n (pc := 1) (j := 0) (i := 0) dX3_tries_1 rfl rfl ?_
  refine go_getI (pc := 2) (n := self) (ci := 3) (k := 86) fa_X3_504_3 t_self rfl dX3_tries_2 ?_
  refine go_icmp_ne (pc := 5) (tgt := 13) dX3_tries_5 (by decide) (fun h1 => ?_) (fun h1 => ?_)
  · refine go_aload_n (pc := 8) (j := 0) (i := 0) dX3_tries_8 rfl rfl ?_
    refine go_callVV (pc := 9) (ci := 3) (ct_X3_looks self t_self) lk_X3_519 rfl rfl rfl (by decide) t_self ⟨by omega, by omega⟩ (Nat.le_of_ble_eq_true rfl) dX3_tries_9 rfl fun v1 u1 => ?_
    exact go_vreturn (pc := 12) rfl dX3_tries_12
  · refine go_iconst (pc := 13) (v := 0) dX3_tries_13 (by decide) ?_
    refine go_istore_n (pc := 14) (j := 2) (i := 2) (A' := [(0, .ref self), (1, .int p0), (2, .int 0)]) rfl (by decide) rfl rfl rfl dX3_tries_14 ?_
    refine go_weak (A' := [(0, .ref self), (1, .int p0), (2, .int 0)]) (B' := []) ⟨rfl, rfl, rfl, trivial⟩ rfl (fun q h => by cases h) (g_X3_tries_L15 rc self p0 _ hrc hFrc hLrc t_self ?_ zFu 0 u)
    · intro u5
      refine go_aload_n (pc := 57) (j := 0) (i := 0) dX3_tries_57 rfl rfl ?_
      refine go_getR (pc := 58) (n := self) (ci := 3) (k := 82) (t := 13) fa_X3_243_3 t_self rfl dX3_tries_58 fun r4 t_r4 => ?_
      refine go_iload_n (pc := 61) (j := 1) (i := 1) dX3_tries_61 rfl rfl ?_
      refine go_iconst (pc := 62) (v := (-1)) dX3_tries_62 (by decide) ?_
      refine go_oB fun n4 e_n4 => ?_
      have t_n4 := t_r4 n4 e_n4
      subst e_n4
      refine go_iast (pc := 63) t_n4 dX3_tries_63 fun u6 => ?_
      refine go_aload_n (pc := 64) (j := 0) (i := 0) dX3_tries_64 rfl rfl ?_
      refine go_iload_n (pc := 65) (j := 1) (i := 1) dX3_tries_65 rfl rfl ?_
      refine go_iconst (pc := 66) (v := 1) dX3_tries_66 (by decide) ?_
      refine go_iadd (pc := 67) dX3_tries_67 ?_
      refine go_callVV (pc := 68) (ci := 3) (hrc self (p0 + 1) t_self) lk_X3_522 rfl rfl rfl (by decide) t_self ⟨by omega, by omega⟩ (Nat.le_of_ble_eq_true rfl) dX3_tries_68 rfl fun v3 u7 => ?_
      exact go_vreturn (pc := 71) rfl dX3_tries_71

def f_X3_tries : Nat → Nat → Int32 → zM → Option (Unit × zM)
  | 0 => fun _ _ _ => none
  | d + 1 => b_X3_tries (f_X3_tries d)
theorem ct_X3_tries : ∀ (d : Nat) (self : Nat) (p0 : Int32), kd self = 3 → zMet yX3_tries cX3_tries 3 (none) (2 * d) (26 * d) rvV (obT) [.ref self, .int p0] (f_X3_tries d self p0) := by
  intro d
  induction d with
  | zero => intro self p0 t_self u b u' h; cases h
  | succ d ih => intro self p0 t_self; exact cb_X3_tries (f_X3_tries d) ih (Nat.le_refl _) (Nat.le_refl _) self p0 t_self
def f_X3_isSign (self : Nat) (p0 : Int32) (u : zM) : Option (Int32 × zM) := if (mI u self 41) ≤ (mI u self 42) then (gb 0 (some (0, u))) else (lt (mR u self 40) fun r1 => oB r1 fun n1 => ix (mI u self 42) (mN u n1) (if (mI u n1 (xN (mI u self 42))) = p0 then (gb 1 (some (1, u))) else (gb 0 (some (0, u)))))
set_option maxHeartbeats 4000000 in
theorem ct_X3_isSign (self : Nat) (p0 : Int32) (t_self : kd self = 3) : zMet yX3_isSign cX3_isSign 2 (some .boolean) 1 0 rvI (obT) [.ref self, .int p0] (f_X3_isSign self p0) := by
  refine zMet_of (A := [(0, .ref self), (1, .int p0)]) (B := []) (ini := false) RX3 rfl (by decide +kernel) (fun h => by cases h) (by simp [lg_sl, Value.category]) (by simp [lv_args, Value.category]) rfl (by simp [lv_args, Value.category]) fun u => ?_
  unfold f_X3_isSign
  refine go_aload_n (pc := 0) (j := 0) (i := 0) dX3_isSign_0 rfl rfl ?_
  refine go_getI (pc := 1) (n := self) (ci := 3) (k := 42) fa_X3_321_3 t_self rfl dX3_isSign_1 ?_
  refine go_aload_n (pc := 4) (j := 0) (i := 0) dX3_isSign_4 rfl rfl ?_
  refine go_getI (pc := 5) (n := self) (ci := 3) (k := 41) fa_X3_314_3 t_self rfl dX3_isSign_5 ?_
  refine go_icmp_ge (pc := 8) (tgt := 28) dX3_isSign_8 (by decide) (fun h1 => ?_) (fun h1 => ?_)
  · refine go_iconst (pc := 28) (v := 0) dX3_isSign_28 (by decide) ?_
    exact go_zreturn (pc := 29) rfl dX3_isSign_29
  · refine go_aload_n (pc := 11) (j := 0) (i := 0) dX3_isSign_11 rfl rfl ?_
    refine go_getR (pc := 12) (n := self) (ci := 3) (k := 40) (t := 14) fa_X3_121_3 t_self rfl dX3_isSign_12 fun r1 t_r1 => ?_
    refine go_aload_n (pc := 15) (j := 0) (i := 0) dX3_isSign_15 rfl rfl ?_
    refine go_getI (pc := 16) (n := self) (ci := 3) (k := 42) fa_X3_321_3 t_self rfl dX3_isSign_16 ?_
    refine go_oB fun n1 e_n1 => ?_
    have t_n1 := t_r1 n1 e_n1
    subst e_n1
    refine go_bald (pc := 19) t_n1 dX3_isSign_19 ?_
    refine go_iload_n (pc := 20) (j := 1) (i := 1) dX3_isSign_20 rfl rfl ?_
    refine go_icmp_ne (pc := 21) (tgt := 28) dX3_isSign_21 (by decide) (fun h2 => ?_) (fun h2 => ?_)
    · refine go_iconst (pc := 24) (v := 1) dX3_isSign_24 (by decide) ?_
      refine go_goto (pc := 25) (tgt := 29) dX3_isSign_25 (by decide) ?_
      exact go_zreturn (pc := 29) rfl dX3_isSign_29
    · refine go_iconst (pc := 28) (v := 0) dX3_isSign_28 (by decide) ?_
      exact go_zreturn (pc := 29) rfl dX3_isSign_29

def f_X3_fails (self : Nat) (u : zM) : Option (Int32 × zM) := if (mI u self 44) = (-1) then (lt (sI u self 44 (mI u self 42)) fun u1 => gb 0 (some (0, u1))) else (gb 0 (some (0, u)))
set_option maxHeartbeats 4000000 in
theorem ct_X3_fails (self : Nat) (t_self : kd self = 3) : zMet yX3_fails cX3_fails 1 (some .boolean) 1 0 rvI (obT) [.ref self] (f_X3_fails self) := by
  refine zMet_of (A := [(0, .ref self)]) (B := []) (ini := false) RX3 rfl (by decide +kernel) (fun h => by cases h) (by simp [lg_sl, Value.category]) (by simp [lv_args, Value.category]) rfl (by simp [lv_args, Value.category]) fun u => ?_
  unfold f_X3_fails
  refine go_aload_n (pc := 0) (j := 0) (i := 0) dX3_fails_0 rfl rfl ?_
  refine go_getI (pc := 1) (n := self) (ci := 3) (k := 44) fa_X3_344_3 t_self rfl dX3_fails_1 ?_
  refine go_iconst (pc := 4) (v := (-1)) dX3_fails_4 (by decide) ?_
  refine go_icmp_ne (pc := 5) (tgt := 16) dX3_fails_5 (by decide) (fun h1 => ?_) (fun h1 => ?_)
  · refine go_aload_n (pc := 8) (j := 0) (i := 0) dX3_fails_8 rfl rfl ?_
    refine go_aload_n (pc := 9) (j := 0) (i := 0) dX3_fails_9 rfl rfl ?_
    refine go_getI (pc := 10) (n := self) (ci := 3) (k := 42) fa_X3_321_3 t_self rfl dX3_fails_10 ?_
    refine go_putI (pc := 13) (n := self) (ci := 3) (k := 44) (v := (mI u self 42)) pa_X3_344_3 (fun h => by cases h) t_self rfl zKeep_int dX3_fails_13 fun u1 => ?_
    refine go_iconst (pc := 16) (v := 0) dX3_fails_16 (by decide) ?_
    exact go_zreturn (pc := 17) rfl dX3_fails_17
  · refine go_iconst (pc := 16) (v := 0) dX3_fails_16 (by decide) ?_
    exact go_zreturn (pc := 17) rfl dX3_fails_17

def f_X3_isLetter (p0 : Int32) (u : zM) : Option (Int32 × zM) := if p0 < 97 then (gb 0 (some (0, u))) else (if 122 < p0 then (gb 0 (some (0, u))) else (gb 1 (some (1, u))))
set_option maxHeartbeats 4000000 in
theorem ct_X3_isLetter (p0 : Int32) : zMet yX3_isLetter cX3_isLetter 1 (some .boolean) 1 0 rvI (obT) [.int p0] (f_X3_isLetter p0) := by
  refine zMet_of (A := [(0, .int p0)]) (B := []) (ini := false) RX3 rfl (by decide +kernel) (fun h => by cases h) (by simp [lg_sl, Value.category]) (by simp [lv_args, Value.category]) rfl (by simp [lv_args, Value.category]) fun u => ?_
  unfold f_X3_isLetter
  refine go_iload_n (pc := 0) (j := 0) (i := 0) dX3_isLetter_0 rfl rfl ?_
  refine go_bipush (pc := 1) (v := 97) dX3_isLetter_1 (by decide) ?_
  refine go_icmp_lt (pc := 3) (tgt := 16) dX3_isLetter_3 (by decide) (fun h1 => ?_) (fun h1 => ?_)
  · refine go_iconst (pc := 16) (v := 0) dX3_isLetter_16 (by decide) ?_
    exact go_zreturn (pc := 17) rfl dX3_isLetter_17
  · refine go_iload_n (pc := 6) (j := 0) (i := 0) dX3_isLetter_6 rfl rfl ?_
    refine go_bipush (pc := 7) (v := 122) dX3_isLetter_7 (by decide) ?_
    refine go_icmp_gt (pc := 9) (tgt := 16) dX3_isLetter_9 (by decide) (fun h2 => ?_) (fun h2 => ?_)
    · refine go_iconst (pc := 16) (v := 0) dX3_isLetter_16 (by decide) ?_
      exact go_zreturn (pc := 17) rfl dX3_isLetter_17
    · refine go_iconst (pc := 12) (v := 1) dX3_isLetter_12 (by decide) ?_
      refine go_goto (pc := 13) (tgt := 17) dX3_isLetter_13 (by decide) ?_
      exact go_zreturn (pc := 17) rfl dX3_isLetter_17

def f_X3_isDigit (p0 : Int32) (u : zM) : Option (Int32 × zM) := if p0 < 48 then (gb 0 (some (0, u))) else (if 57 < p0 then (gb 0 (some (0, u))) else (gb 1 (some (1, u))))
set_option maxHeartbeats 4000000 in
theorem ct_X3_isDigit (p0 : Int32) : zMet yX3_isDigit cX3_isDigit 1 (some .boolean) 1 0 rvI (obT) [.int p0] (f_X3_isDigit p0) := by
  refine zMet_of (A := [(0, .int p0)]) (B := []) (ini := false) RX3 rfl (by decide +kernel) (fun h => by cases h) (by simp [lg_sl, Value.category]) (by simp [lv_args, Value.category]) rfl (by simp [lv_args, Value.category]) fun u => ?_
  unfold f_X3_isDigit
  refine go_iload_n (pc := 0) (j := 0) (i := 0) dX3_isDigit_0 rfl rfl ?_
  refine go_bipush (pc := 1) (v := 48) dX3_isDigit_1 (by decide) ?_
  refine go_icmp_lt (pc := 3) (tgt := 16) dX3_isDigit_3 (by decide) (fun h1 => ?_) (fun h1 => ?_)
  · refine go_iconst (pc := 16) (v := 0) dX3_isDigit_16 (by decide) ?_
    exact go_zreturn (pc := 17) rfl dX3_isDigit_17
  · refine go_iload_n (pc := 6) (j := 0) (i := 0) dX3_isDigit_6 rfl rfl ?_
    refine go_bipush (pc := 7) (v := 57) dX3_isDigit_7 (by decide) ?_
    refine go_icmp_gt (pc := 9) (tgt := 16) dX3_isDigit_9 (by decide) (fun h2 => ?_) (fun h2 => ?_)
    · refine go_iconst (pc := 16) (v := 0) dX3_isDigit_16 (by decide) ?_
      exact go_zreturn (pc := 17) rfl dX3_isDigit_17
    · refine go_iconst (pc := 12) (v := 1) dX3_isDigit_12 (by decide) ?_
      refine go_goto (pc := 13) (tgt := 17) dX3_isDigit_13 (by decide) ?_
      exact go_zreturn (pc := 17) rfl dX3_isDigit_17

def f_X3_skips_L0 (x0 : Nat) (k52 : zM → Option (Unit × zM)) : Nat → zM → Option (Unit × zM)
  | 0, _ => none
  | n + 1, u => if (mI u x0 41) ≤ (mI u x0 42) then (k52 u) else (lt (mR u x0 40) fun r1 => oB r1 fun n1 => ix (mI u x0 42) (mN u n1) (lt (fun (u1 : zM) => lt (sI u1 x0 42 ((mI u1 x0 42) + 1)) fun u2 => f_X3_skips_L0 x0 k52 n u2) fun j1 => if (mI u n1 (xN (mI u x0 42))) = 32 then (j1 u) else (lt (mR u x0 40) fun r2 => oB r2 fun n2 => ix (mI u x0 42) (mN u n2) (if (mI u n2 (xN (mI u x0 42))) = 10 then (j1 u) else (k52 u)))))
section
variable {c0 s0 : Nat} {tbv : List ExceptionTableEntry}
set_option maxHeartbeats 4000000 in
theorem g_X3_skips_L0 (x0 : Nat) (k52 : zM → Option (Unit × zM)) (t_x0 : kd x0 = 3) (hk52 : ∀ (u : zM), Go RX3 cX3_skips 1 (none) false 2 20 [] (obT) (zQ rvV) c0 s0 52 [(0, .ref x0)] [] [] u (k52 u)) : ∀ (n : Nat) (u : zM), Go RX3 cX3_skips 1 (none) false 2 20 [] (obT) (zQ rvV) c0 s0 0 [(0, .ref x0)] [] [] u (f_X3_skips_L0 x0 k52 n u) := by
  intro n
  induction n with
  | zero => intros; exact go_none
  | succ n ih =>
    intro u
    unfold f_X3_skips_L0
    refine go_aload_n (pc := 0) (j := 0) (i := 0) dX3_skips_0 rfl rfl ?_
    refine go_getI (pc := 1) (n := x0) (ci := 3) (k := 42) fa_X3_321_3 t_x0 rfl dX3_skips_1 ?_
    refine go_aload_n (pc := 4) (j := 0) (i := 0) dX3_skips_4 rfl rfl ?_
    refine go_getI (pc := 5) (n := x0) (ci := 3) (k := 41) fa_X3_314_3 t_x0 rfl dX3_skips_5 ?_
    refine go_icmp_ge (pc := 8) (tgt := 52) dX3_skips_8 (by decide) (fun h1 => ?_) (fun h1 => ?_)
    · exact go_weak (A' := [(0, .ref x0)]) (B' := []) ⟨rfl, trivial⟩ rfl (fun q h => by cases h) (hk52 u)
    · refine go_aload_n (pc := 11) (j := 0) (i := 0) dX3_skips_11 rfl rfl ?_
      refine go_getR (pc := 12) (n := x0) (ci := 3) (k := 40) (t := 14) fa_X3_121_3 t_x0 rfl dX3_skips_12 fun r1 t_r1 => ?_
      refine go_aload_n (pc := 15) (j := 0) (i := 0) dX3_skips_15 rfl rfl ?_
      refine go_getI (pc := 16) (n := x0) (ci := 3) (k := 42) fa_X3_321_3 t_x0 rfl dX3_skips_16 ?_
      refine go_oB fun n1 e_n1 => ?_
      have t_n1 := t_r1 n1 e_n1
      subst e_n1
      refine go_bald (pc := 19) t_n1 dX3_skips_19 ?_
      refine go_bipush (pc := 20) (v := 32) dX3_skips_20 (by decide) ?_
      refine go_join0 (pcx := 39) ([(0, .ref x0)]) ([]) ([]) (True) (fun u1 _ => ?_) (fun j1 hj1 => ?_)
      · refine go_aload_n (pc := 39) (j := 0) (i := 0) dX3_skips_39 rfl rfl ?_
        refine go_dupA (pc := 40) dX3_skips_40 ?_
        refine go_getI (pc := 41) (n := x0) (ci := 3) (k := 42) fa_X3_321_3 t_x0 rfl dX3_skips_41 ?_
        refine go_iconst (pc := 44) (v := 1) dX3_skips_44 (by decide) ?_
        refine go_iadd (pc := 45) dX3_skips_45 ?_
        refine go_putI (pc := 46) (n := x0) (ci := 3) (k := 42) (v := ((mI u1 x0 42) + 1)) pa_X3_321_3 (fun h => by cases h) t_x0 rfl zKeep_int dX3_skips_46 fun u2 => ?_
        refine go_goto (pc := 49) (tgt := 0) dX3_skips_49 (by decide) ?_
        exact go_weak (A' := [(0, .ref x0)]) (B' := []) ⟨rfl, trivial⟩ rfl (fun q h => by cases h) (ih u2)
      · refine go_icmp_eq (pc := 22) (tgt := 39) dX3_skips_22 (by decide) (fun h2 => ?_) (fun h2 => ?_)
        · exact go_weak (A' := [(0, .ref x0)]) (B' := []) ⟨rfl, trivial⟩ rfl (fun q h => by cases h) (hj1 u trivial)
        · refine go_aload_n (pc := 25) (j := 0) (i := 0) dX3_skips_25 rfl rfl ?_
          refine go_getR (pc := 26) (n := x0) (ci := 3) (k := 40) (t := 14) fa_X3_121_3 t_x0 rfl dX3_skips_26 fun r2 t_r2 => ?_
          refine go_aload_n (pc := 29) (j := 0) (i := 0) dX3_skips_29 rfl rfl ?_
          refine go_getI (pc := 30) (n := x0) (ci := 3) (k := 42) fa_X3_321_3 t_x0 rfl dX3_skips_30 ?_
          refine go_oB fun n2 e_n2 => ?_
          have t_n2 := t_r2 n2 e_n2
          subst e_n2
          refine go_bald (pc := 33) t_n2 dX3_skips_33 ?_
          refine go_bipush (pc := 34) (v := 10) dX3_skips_34 (by decide) ?_
          refine go_icmp_ne (pc := 36) (tgt := 52) dX3_skips_36 (by decide) (fun h3 => ?_) (fun h3 => ?_)
          · exact go_weak (A' := [(0, .ref x0)]) (B' := []) ⟨rfl, trivial⟩ rfl (fun q h => by cases h) (hj1 u trivial)
          · exact go_weak (A' := [(0, .ref x0)]) (B' := []) ⟨rfl, trivial⟩ rfl (fun q h => by cases h) (hk52 u)
end
def f_X3_skips_L141 (x0 : Nat) : Nat → zM → Option (Unit × zM)
  | 0, _ => none
  | n + 1, u => if (mI u x0 41) ≤ (mI u x0 43) then (some ((), u)) else (lt (mR u x0 40) fun r5 => oB r5 fun n5 => ix (mI u x0 43) (mN u n5) (bd (f_X3_isDigit (mI u n5 (xN (mI u x0 43))) u) fun v3 u8 => if v3 = 0 then (some ((), u8)) else (lt (sI u8 x0 43 ((mI u8 x0 43) + 1)) fun u9 => f_X3_skips_L141 x0 n u9)))
section
variable {c0 s0 : Nat} {tbv : List ExceptionTableEntry}
set_option maxHeartbeats 4000000 in
theorem g_X3_skips_L141 (x0 : Nat) (t_x0 : kd x0 = 3) : ∀ (n : Nat) (u : zM), Go RX3 cX3_skips 1 (none) false 2 20 [] (obT) (zQ rvV) c0 s0 141 [(0, .ref x0)] [] [] u (f_X3_skips_L141 x0 n u) := by
  intro n
  induction n with
  | zero => intros; exact go_none
  | succ n ih =>
    intro u
    unfold f_X3_skips_L141
    refine go_aload_n (pc := 141) (j := 0) (i := 0) dX3_skips_141 rfl rfl ?_
    refine go_getI (pc := 142) (n := x0) (ci := 3) (k := 43) fa_X3_324_3 t_x0 rfl dX3_skips_142 ?_
    refine go_aload_n (pc := 145) (j := 0) (i := 0) dX3_skips_145 rfl rfl ?_
    refine go_getI (pc := 146) (n := x0) (ci := 3) (k := 41) fa_X3_314_3 t_x0 rfl dX3_skips_146 ?_
    refine go_icmp_ge (pc := 149) (tgt := 190) dX3_skips_149 (by decide) (fun h7 => ?_) (fun h7 => ?_)
    · exact go_vreturn (pc := 190) rfl dX3_skips_190
    · refine go_aload_n (pc := 152) (j := 0) (i := 0) dX3_skips_152 rfl rfl ?_
      refine go_getR (pc := 153) (n := x0) (ci := 3) (k := 40) (t := 14) fa_X3_121_3 t_x0 rfl dX3_skips_153 fun r5 t_r5 => ?_
      refine go_aload_n (pc := 156) (j := 0) (i := 0) dX3_skips_156 rfl rfl ?_
      refine go_getI (pc := 157) (n := x0) (ci := 3) (k := 43) fa_X3_324_3 t_x0 rfl dX3_skips_157 ?_
      refine go_oB fun n5 e_n5 => ?_
      have t_n5 := t_r5 n5 e_n5
      subst e_n5
      refine go_bald (pc := 160) t_n5 dX3_skips_160 ?_
      refine go_callSI (pc := 161) (ct_X3_isDigit (mI u n5 (xN (mI u x0 43)))) lk_X3_330 rfl ⟨by decide, by decide⟩ (Nat.le_of_ble_eq_true rfl) dX3_skips_161 rfl fun v3 u8 => ?_
      refine go_if_eq (pc := 164) (tgt := 190) dX3_skips_164 (by decide) (fun h8 => ?_) (fun h8 => ?_)
      · exact go_vreturn (pc := 190) rfl dX3_skips_190
      · refine go_aload_n (pc := 167) (j := 0) (i := 0) dX3_skips_167 rfl rfl ?_
        refine go_dupA (pc := 168) dX3_skips_168 ?_
        refine go_getI (pc := 169) (n := x0) (ci := 3) (k := 43) fa_X3_324_3 t_x0 rfl dX3_skips_169 ?_
        refine go_iconst (pc := 172) (v := 1) dX3_skips_172 (by decide) ?_
        refine go_iadd (pc := 173) dX3_skips_173 ?_
        refine go_putI (pc := 174) (n := x0) (ci := 3) (k := 43) (v := ((mI u8 x0 43) + 1)) pa_X3_324_3 (fun h => by cases h) t_x0 rfl zKeep_int dX3_skips_174 fun u9 => ?_
        refine go_goto (pc := 177) (tgt := 141) dX3_skips_177 (by decide) ?_
        exact go_weak (A' := [(0, .ref x0)]) (B' := []) ⟨rfl, trivial⟩ rfl (fun q h => by cases h) (ih u9)
end
def f_X3_skips_L87 (x0 : Nat) : Nat → zM → Option (Unit × zM)
  | 0, _ => none
  | n + 1, u => if (mI u x0 41) ≤ (mI u x0 43) then (some ((), u)) else (lt (mR u x0 40) fun r6 => oB r6 fun n6 => ix (mI u x0 43) (mN u n6) (bd (f_X3_isLetter (mI u n6 (xN (mI u x0 43))) u) fun v4 u10 => if v4 = 0 then (some ((), u10)) else (lt (sI u10 x0 43 ((mI u10 x0 43) + 1)) fun u11 => f_X3_skips_L87 x0 n u11)))
section
variable {c0 s0 : Nat} {tbv : List ExceptionTableEntry}
set_option maxHeartbeats 4000000 in
theorem g_X3_skips_L87 (x0 : Nat) (t_x0 : kd x0 = 3) : ∀ (n : Nat) (u : zM), Go RX3 cX3_skips 1 (none) false 2 20 [] (obT) (zQ rvV) c0 s0 87 [(0, .ref x0)] [] [] u (f_X3_skips_L87 x0 n u) := by
  intro n
  induction n with
  | zero => intros; exact go_none
  | succ n ih =>
    intro u
    unfold f_X3_skips_L87
    refine go_aload_n (pc := 87) (j := 0) (i := 0) dX3_skips_87 rfl rfl ?_
    refine go_getI (pc := 88) (n := x0) (ci := 3) (k := 43) fa_X3_324_3 t_x0 rfl dX3_skips_88 ?_
    refine go_aload_n (pc := 91) (j := 0) (i := 0) dX3_skips_91 rfl rfl ?_
    refine go_getI (pc := 92) (n := x0) (ci := 3) (k := 41) fa_X3_314_3 t_x0 rfl dX3_skips_92 ?_
    refine go_icmp_ge (pc := 95) (tgt := 190) dX3_skips_95 (by decide) (fun h9 => ?_) (fun h9 => ?_)
    · exact go_vreturn (pc := 190) rfl dX3_skips_190
    · refine go_aload_n (pc := 98) (j := 0) (i := 0) dX3_skips_98 rfl rfl ?_
      refine go_getR (pc := 99) (n := x0) (ci := 3) (k := 40) (t := 14) fa_X3_121_3 t_x0 rfl dX3_skips_99 fun r6 t_r6 => ?_
      refine go_aload_n (pc := 102) (j := 0) (i := 0) dX3_skips_102 rfl rfl ?_
      refine go_getI (pc := 103) (n := x0) (ci := 3) (k := 43) fa_X3_324_3 t_x0 rfl dX3_skips_103 ?_
      refine go_oB fun n6 e_n6 => ?_
      have t_n6 := t_r6 n6 e_n6
      subst e_n6
      refine go_bald (pc := 106) t_n6 dX3_skips_106 ?_
      refine go_callSI (pc := 107) (ct_X3_isLetter (mI u n6 (xN (mI u x0 43)))) lk_X3_327 rfl ⟨by decide, by decide⟩ (Nat.le_of_ble_eq_true rfl) dX3_skips_107 rfl fun v4 u10 => ?_
      refine go_if_eq (pc := 110) (tgt := 190) dX3_skips_110 (by decide) (fun h10 => ?_) (fun h10 => ?_)
      · exact go_vreturn (pc := 190) rfl dX3_skips_190
      · refine go_aload_n (pc := 113) (j := 0) (i := 0) dX3_skips_113 rfl rfl ?_
        refine go_dupA (pc := 114) dX3_skips_114 ?_
        refine go_getI (pc := 115) (n := x0) (ci := 3) (k := 43) fa_X3_324_3 t_x0 rfl dX3_skips_115 ?_
        refine go_iconst (pc := 118) (v := 1) dX3_skips_118 (by decide) ?_
        refine go_iadd (pc := 119) dX3_skips_119 ?_
        refine go_putI (pc := 120) (n := x0) (ci := 3) (k := 43) (v := ((mI u10 x0 43) + 1)) pa_X3_324_3 (fun h => by cases h) t_x0 rfl zKeep_int dX3_skips_120 fun u11 => ?_
        refine go_goto (pc := 123) (tgt := 87) dX3_skips_123 (by decide) ?_
        exact go_weak (A' := [(0, .ref x0)]) (B' := []) ⟨rfl, trivial⟩ rfl (fun q h => by cases h) (ih u11)
end
def f_X3_skips (self : Nat) (u : zM) : Option (Unit × zM) := f_X3_skips_L0 self (fun u3 => lt (sI u3 self 43 (mI u3 self 42)) fun u4 => if (mI u4 self 42) = (mI u4 self 41) then (some ((), u4)) else (lt (mR u4 self 40) fun r3 => oB r3 fun n3 => ix (mI u4 self 42) (mN u4 n3) (bd (f_X3_isLetter (mI u4 n3 (xN (mI u4 self 42))) u4) fun v1 u5 => if v1 = 0 then (lt (mR u5 self 40) fun r4 => oB r4 fun n4 => ix (mI u5 self 42) (mN u5 n4) (bd (f_X3_isDigit (mI u5 n4 (xN (mI u5 self 42))) u5) fun v2 u6 => if v2 = 0 then (lt (sI u6 self 43 ((mI u6 self 42) + 1)) fun u7 => some ((), u7)) else (f_X3_skips_L141 self zFu u6))) else (f_X3_skips_L87 self zFu u5)))) zFu u
set_option maxHeartbeats 4000000 in
theorem ct_X3_skips (self : Nat) (t_self : kd self = 3) : zMet yX3_skips cX3_skips 1 (none) 2 20 rvV (obT) [.ref self] (f_X3_skips self) := by
  refine zMet_of (A := [(0, .ref self)]) (B := []) (ini := false) RX3 rfl (by decide +kernel) (fun h => by cases h) (by simp [lg_sl, Value.category]) (by simp [lv_args, Value.category]) rfl (by simp [lv_args, Value.category]) fun u => ?_
  unfold f_X3_skips
  refine go_weak (A' := [(0, .ref self)]) (B' := []) ⟨rfl, trivial⟩ rfl (fun q h => by cases h) (g_X3_skips_L0 self _ t_self ?_ zFu u)
  · intro u3
    refine go_aload_n (pc := 52) (j := 0) (i := 0) dX3_skips_52 rfl rfl ?_
    refine go_aload_n (pc := 53) (j := 0) (i := 0) dX3_skips_53 rfl rfl ?_
    refine go_getI (pc := 54) (n := self) (ci := 3) (k := 42) fa_X3_321_3 t_self rfl dX3_skips_54 ?_
    refine go_putI (pc := 57) (n := self) (ci := 3) (k := 43) (v := (mI u3 self 42)) pa_X3_324_3 (fun h => by cases h) t_self rfl zKeep_int dX3_skips_57 fun u4 => ?_
    refine go_aload_n (pc := 60) (j := 0) (i := 0) dX3_skips_60 rfl rfl ?_
    refine go_getI (pc := 61) (n := self) (ci := 3) (k := 42) fa_X3_321_3 t_self rfl dX3_skips_61 ?_
    refine go_aload_n (pc := 64) (j := 0) (i := 0) dX3_skips_64 rfl rfl ?_
    refine go_getI (pc := 65) (n := self) (ci := 3) (k := 41) fa_X3_314_3 t_self rfl dX3_skips_65 ?_
    refine go_icmp_ne (pc := 68) (tgt := 72) dX3_skips_68 (by decide) (fun h4 => ?_) (fun h4 => ?_)
    · exact go_vreturn (pc := 71) rfl dX3_skips_71
    · refine go_aload_n (pc := 72) (j := 0) (i := 0) dX3_skips_72 rfl rfl ?_
      refine go_getR (pc := 73) (n := self) (ci := 3) (k := 40) (t := 14) fa_X3_121_3 t_self rfl dX3_skips_73 fun r3 t_r3 => ?_
      refine go_aload_n (pc := 76) (j := 0) (i := 0) dX3_skips_76 rfl rfl ?_
      refine go_getI (pc := 77) (n := self) (ci := 3) (k := 42) fa_X3_321_3 t_self rfl dX3_skips_77 ?_
      refine go_oB fun n3 e_n3 => ?_
      have t_n3 := t_r3 n3 e_n3
      subst e_n3
      refine go_bald (pc := 80) t_n3 dX3_skips_80 ?_
      refine go_callSI (pc := 81) (ct_X3_isLetter (mI u4 n3 (xN (mI u4 self 42)))) lk_X3_327 rfl ⟨by decide, by decide⟩ (Nat.le_of_ble_eq_true rfl) dX3_skips_81 rfl fun v1 u5 => ?_
      refine go_if_eq (pc := 84) (tgt := 126) dX3_skips_84 (by decide) (fun h5 => ?_) (fun h5 => ?_)
      · refine go_aload_n (pc := 126) (j := 0) (i := 0) dX3_skips_126 rfl rfl ?_
        refine go_getR (pc := 127) (n := self) (ci := 3) (k := 40) (t := 14) fa_X3_121_3 t_self rfl dX3_skips_127 fun r4 t_r4 => ?_
        refine go_aload_n (pc := 130) (j := 0) (i := 0) dX3_skips_130 rfl rfl ?_
        refine go_getI (pc := 131) (n := self) (ci := 3) (k := 42) fa_X3_321_3 t_self rfl dX3_skips_131 ?_
        refine go_oB fun n4 e_n4 => ?_
        have t_n4 := t_r4 n4 e_n4
        subst e_n4
        refine go_bald (pc := 134) t_n4 dX3_skips_134 ?_
        refine go_callSI (pc := 135) (ct_X3_isDigit (mI u5 n4 (xN (mI u5 self 42)))) lk_X3_330 rfl ⟨by decide, by decide⟩ (Nat.le_of_ble_eq_true rfl) dX3_skips_135 rfl fun v2 u6 => ?_
        refine go_if_eq (pc := 138) (tgt := 180) dX3_skips_138 (by decide) (fun h6 => ?_) (fun h6 => ?_)
        · refine go_aload_n (pc := 180) (j := 0) (i := 0) dX3_skips_180 rfl rfl ?_
          refine go_aload_n (pc := 181) (j := 0) (i := 0) dX3_skips_181 rfl rfl ?_
          refine go_getI (pc := 182) (n := self) (ci := 3) (k := 42) fa_X3_321_3 t_self rfl dX3_skips_182 ?_
          refine go_iconst (pc := 185) (v := 1) dX3_skips_185 (by decide) ?_
          refine go_iadd (pc := 186) dX3_skips_186 ?_
          refine go_putI (pc := 187) (n := self) (ci := 3) (k := 43) (v := ((mI u6 self 42) + 1)) pa_X3_324_3 (fun h => by cases h) t_self rfl zKeep_int dX3_skips_187 fun u7 => ?_
          exact go_vreturn (pc := 190) rfl dX3_skips_190
        · exact go_weak (A' := [(0, .ref self)]) (B' := []) ⟨rfl, trivial⟩ rfl (fun q h => by cases h) (g_X3_skips_L141 self t_self zFu u6)
      · exact go_weak (A' := [(0, .ref self)]) (B' := []) ⟨rfl, trivial⟩ rfl (fun q h => by cases h) (g_X3_skips_L87 self t_self zFu u5)

def f_X3_goesOn (self : Nat) (u : zM) : Option (Unit × zM) := lt (sI u self 42 (mI u self 43)) fun u1 => bd (f_X3_skips self u1) fun v1 u2 => some ((), u2)
set_option maxHeartbeats 4000000 in
theorem ct_X3_goesOn (self : Nat) (t_self : kd self = 3) : zMet yX3_goesOn cX3_goesOn 1 (none) 3 40 rvV (obT) [.ref self] (f_X3_goesOn self) := by
  refine zMet_of (A := [(0, .ref self)]) (B := []) (ini := false) RX3 rfl (by decide +kernel) (fun h => by cases h) (by simp [lg_sl, Value.category]) (by simp [lv_args, Value.category]) rfl (by simp [lv_args, Value.category]) fun u => ?_
  unfold f_X3_goesOn
  refine go_aload_n (pc := 0) (j := 0) (i := 0) dX3_goesOn_0 rfl rfl ?_
  refine go_aload_n (pc := 1) (j := 0) (i := 0) dX3_goesOn_1 rfl rfl ?_
  refine go_getI (pc := 2) (n := self) (ci := 3) (k := 43) fa_X3_324_3 t_self rfl dX3_goesOn_2 ?_
  refine go_putI (pc := 5) (n := self) (ci := 3) (k := 42) (v := (mI u self 43)) pa_X3_321_3 (fun h => by cases h) t_self rfl zKeep_int dX3_goesOn_5 fun u1 => ?_
  refine go_aload_n (pc := 8) (j := 0) (i := 0) dX3_goesOn_8 rfl rfl ?_
  refine go_callVV (pc := 9) (ci := 3) (ct_X3_skips self t_self) lk_X3_333 rfl rfl rfl (by decide) t_self ⟨by decide, by decide⟩ (Nat.le_of_ble_eq_true rfl) dX3_goesOn_9 rfl fun v1 u2 => ?_
  exact go_vreturn (pc := 12) rfl dX3_goesOn_12

def f_X3_passes (self : Nat) (p0 : Int32) (u : zM) : Option (Int32 × zM) := if p0 = 0 then (bd (f_X3_fails self u) fun v1 u1 => gb v1 (some (v1, u1))) else (bd (f_X3_goesOn self u) fun v2 u2 => gb 1 (some (1, u2)))
set_option maxHeartbeats 4000000 in
theorem ct_X3_passes (self : Nat) (p0 : Int32) (t_self : kd self = 3) : zMet yX3_passes cX3_passes 2 (some .boolean) 4 60 rvI (obT) [.ref self, .int p0] (f_X3_passes self p0) := by
  refine zMet_of (A := [(0, .ref self), (1, .int p0)]) (B := []) (ini := false) RX3 rfl (by decide +kernel) (fun h => by cases h) (by simp [lg_sl, Value.category]) (by simp [lv_args, Value.category]) rfl (by simp [lv_args, Value.category]) fun u => ?_
  unfold f_X3_passes
  refine go_iload_n (pc := 0) (j := 1) (i := 1) dX3_passes_0 rfl rfl ?_
  refine go_if_ne (pc := 1) (tgt := 9) dX3_passes_1 (by decide) (fun h1 => ?_) (fun h1 => ?_)
  · refine go_aload_n (pc := 4) (j := 0) (i := 0) dX3_passes_4 rfl rfl ?_
    refine go_callVI (pc := 5) (ci := 3) (ct_X3_fails self t_self) lk_X3_347 rfl rfl rfl (by decide) t_self ⟨by decide, by decide⟩ (Nat.le_of_ble_eq_true rfl) dX3_passes_5 rfl fun v1 u1 => ?_
    exact go_zreturn (pc := 8) rfl dX3_passes_8
  · refine go_aload_n (pc := 9) (j := 0) (i := 0) dX3_passes_9 rfl rfl ?_
    refine go_callVV (pc := 10) (ci := 3) (ct_X3_goesOn self t_self) lk_X3_351 rfl rfl rfl (by decide) t_self ⟨by decide, by decide⟩ (Nat.le_of_ble_eq_true rfl) dX3_passes_10 rfl fun v2 u2 => ?_
    refine go_iconst (pc := 13) (v := 1) dX3_passes_13 (by decide) ?_
    exact go_zreturn (pc := 14) rfl dX3_passes_14

def f_X3_isNumber_L38 (x0 : Nat) : Nat → Int32 → zM → Option (Int32 × zM)
  | 0, _, _ => none
  | n + 1, x1, u => if (mI u x0 43) ≤ x1 then (gb 1 (some (1, u))) else (lt (fun (z1 : Int32) (u3 : zM) => lt (sI u3 x0 46 z1) fun u4 => f_X3_isNumber_L38 x0 n (x1 + 1) u4) fun j1 => if (mI u x0 46) ≤ 99999 then (lt (mR u x0 40) fun r2 => oB r2 fun n2 => ix x1 (mN u n2) (j1 (((10 * (mI u x0 46)) + (mI u n2 (xN x1))) - 48) u)) else (j1 999999 u))
section
variable {c0 s0 : Nat} {tbv : List ExceptionTableEntry}
set_option maxHeartbeats 4000000 in
theorem g_X3_isNumber_L38 (x0 : Nat) (t_x0 : kd x0 = 3) : ∀ (n : Nat) (x1 : Int32) (u : zM), Go RX3 cX3_isNumber 2 (some .boolean) false 2 20 [] (obT) (zQ rvI) c0 s0 38 [(0, .ref x0), (1, .int x1)] [] [] u (f_X3_isNumber_L38 x0 n x1 u) := by
  intro n
  induction n with
  | zero => intros; exact go_none
  | succ n ih =>
    intro x1 u
    unfold f_X3_isNumber_L38
    refine go_iload_n (pc := 38) (j := 1) (i := 1) dX3_isNumber_38 rfl rfl ?_
    refine go_aload_n (pc := 39) (j := 0) (i := 0) dX3_isNumber_39 rfl rfl ?_
    refine go_getI (pc := 40) (n := x0) (ci := 3) (k := 43) fa_X3_324_3 t_x0 rfl dX3_isNumber_40 ?_
    refine go_icmp_ge (pc := 43) (tgt := 89) dX3_isNumber_43 (by decide) (fun h3 => ?_) (fun h3 => ?_)
    · refine go_iconst (pc := 89) (v := 1) dX3_isNumber_89 (by decide) ?_
      exact go_zreturn (pc := 90) rfl dX3_isNumber_90
    · refine go_aload_n (pc := 46) (j := 0) (i := 0) dX3_isNumber_46 rfl rfl ?_
      refine go_aload_n (pc := 47) (j := 0) (i := 0) dX3_isNumber_47 rfl rfl ?_
      refine go_getI (pc := 48) (n := x0) (ci := 3) (k := 46) fa_X3_360_3 t_x0 rfl dX3_isNumber_48 ?_
      refine go_ldcw (pc := 51) (v := 99999) dX3_isNumber_51 q1673 ?_
      refine go_join1 (pcx := 80) (α1 := Int32) (fun z1 => [(0, .ref x0), (1, .int x1)]) (fun z1 => []) (fun z1 => [.int z1, .ref x0]) (fun z1 => True) (fun z1 u3 _ => ?_) (fun j1 hj1 => ?_)
      · refine go_putI (pc := 80) (n := x0) (ci := 3) (k := 46) (v := z1) pa_X3_360_3 (fun h => by cases h) t_x0 rfl zKeep_int dX3_isNumber_80 fun u4 => ?_
        refine go_iinc (pc := 83) (i := 1) (w := 1) (A' := [(0, .ref x0), (1, .int (x1 + 1))]) rfl (by decide) (by decide) rfl rfl rfl dX3_isNumber_83 ?_
        refine go_goto (pc := 86) (tgt := 38) dX3_isNumber_86 (by decide) ?_
        exact go_weak (A' := [(0, .ref x0), (1, .int (x1 + 1))]) (B' := []) ⟨rfl, rfl, trivial⟩ rfl (fun q h => by cases h) (ih (x1 + 1) u4)
      · refine go_icmp_le (pc := 54) (tgt := 63) dX3_isNumber_54 (by decide) (fun h4 => ?_) (fun h4 => ?_)
        · refine go_bipush (pc := 63) (v := 10) dX3_isNumber_63 (by decide) ?_
          refine go_aload_n (pc := 65) (j := 0) (i := 0) dX3_isNumber_65 rfl rfl ?_
          refine go_getI (pc := 66) (n := x0) (ci := 3) (k := 46) fa_X3_360_3 t_x0 rfl dX3_isNumber_66 ?_
          refine go_imul (pc := 69) dX3_isNumber_69 ?_
          refine go_aload_n (pc := 70) (j := 0) (i := 0) dX3_isNumber_70 rfl rfl ?_
          refine go_getR (pc := 71) (n := x0) (ci := 3) (k := 40) (t := 14) fa_X3_121_3 t_x0 rfl dX3_isNumber_71 fun r2 t_r2 => ?_
          refine go_iload_n (pc := 74) (j := 1) (i := 1) dX3_isNumber_74 rfl rfl ?_
          refine go_oB fun n2 e_n2 => ?_
          have t_n2 := t_r2 n2 e_n2
          subst e_n2
          refine go_bald (pc := 75) t_n2 dX3_isNumber_75 ?_
          refine go_iadd (pc := 76) dX3_isNumber_76 ?_
          refine go_bipush (pc := 77) (v := 48) dX3_isNumber_77 (by decide) ?_
          refine go_isub (pc := 79) dX3_isNumber_79 ?_
          exact go_weak (A' := [(0, .ref x0), (1, .int x1)]) (B' := []) ⟨rfl, rfl, trivial⟩ rfl (fun q h => by cases h) (hj1 (((10 * (mI u x0 46)) + (mI u n2 (xN x1))) - 48) u trivial)
        · refine go_ldcw (pc := 57) (v := 999999) dX3_isNumber_57 q1674 ?_
          refine go_goto (pc := 60) (tgt := 80) dX3_isNumber_60 (by decide) ?_
          exact go_weak (A' := [(0, .ref x0), (1, .int x1)]) (B' := []) ⟨rfl, rfl, trivial⟩ rfl (fun q h => by cases h) (hj1 999999 u trivial)
end
def f_X3_isNumber (self : Nat) (u : zM) : Option (Int32 × zM) := if (mI u self 42) = (mI u self 41) then (gb 0 (some (0, u))) else (lt (mR u self 40) fun r1 => oB r1 fun n1 => ix (mI u self 42) (mN u n1) (bd (f_X3_isDigit (mI u n1 (xN (mI u self 42))) u) fun v1 u1 => if v1 = 0 then (gb 0 (some (0, u1))) else (lt (sI u1 self 46 0) fun u2 => f_X3_isNumber_L38 self zFu (mI u2 self 42) u2)))
set_option maxHeartbeats 4000000 in
theorem ct_X3_isNumber (self : Nat) (t_self : kd self = 3) : zMet yX3_isNumber cX3_isNumber 2 (some .boolean) 2 20 rvI (obT) [.ref self] (f_X3_isNumber self) := by
  refine zMet_of (A := [(0, .ref self)]) (B := []) (ini := false) RX3 rfl (by decide +kernel) (fun h => by cases h) (by simp [lg_sl, Value.category]) (by simp [lv_args, Value.category]) rfl (by simp [lv_args, Value.category]) fun u => ?_
  unfold f_X3_isNumber
  refine go_aload_n (pc := 0) (j := 0) (i := 0) dX3_isNumber_0 rfl rfl ?_
  refine go_getI (pc := 1) (n := self) (ci := 3) (k := 42) fa_X3_321_3 t_self rfl dX3_isNumber_1 ?_
  refine go_aload_n (pc := 4) (j := 0) (i := 0) dX3_isNumber_4 rfl rfl ?_
  refine go_getI (pc := 5) (n := self) (ci := 3) (k := 41) fa_X3_314_3 t_self rfl dX3_isNumber_5 ?_
  refine go_icmp_eq (pc := 8) (tgt := 26) dX3_isNumber_8 (by decide) (fun h1 => ?_) (fun h1 => ?_)
  · refine go_iconst (pc := 26) (v := 0) dX3_isNumber_26 (by decide) ?_
    exact go_zreturn (pc := 27) rfl dX3_isNumber_27
  · refine go_aload_n (pc := 11) (j := 0) (i := 0) dX3_isNumber_11 rfl rfl ?_
    refine go_getR (pc := 12) (n := self) (ci := 3) (k := 40) (t := 14) fa_X3_121_3 t_self rfl dX3_isNumber_12 fun r1 t_r1 => ?_
    refine go_aload_n (pc := 15) (j := 0) (i := 0) dX3_isNumber_15 rfl rfl ?_
    refine go_getI (pc := 16) (n := self) (ci := 3) (k := 42) fa_X3_321_3 t_self rfl dX3_isNumber_16 ?_
    refine go_oB fun n1 e_n1 => ?_
    have t_n1 := t_r1 n1 e_n1
    subst e_n1
    refine go_bald (pc := 19) t_n1 dX3_isNumber_19 ?_
    refine go_callSI (pc := 20) (ct_X3_isDigit (mI u n1 (xN (mI u self 42)))) lk_X3_330 rfl ⟨by decide, by decide⟩ (Nat.le_of_ble_eq_true rfl) dX3_isNumber_20 rfl fun v1 u1 => ?_
    refine go_if_ne (pc := 23) (tgt := 28) dX3_isNumber_23 (by decide) (fun h2 => ?_) (fun h2 => ?_)
    · refine go_iconst (pc := 26) (v := 0) dX3_isNumber_26 (by decide) ?_
      exact go_zreturn (pc := 27) rfl dX3_isNumber_27
    · refine go_aload_n (pc := 28) (j := 0) (i := 0) dX3_isNumber_28 rfl rfl ?_
      refine go_iconst (pc := 29) (v := 0) dX3_isNumber_29 (by decide) ?_
      refine go_putI (pc := 30) (n := self) (ci := 3) (k := 46) (v := 0) pa_X3_360_3 (fun h => by cases h) t_self rfl zKeep_int dX3_isNumber_30 fun u2 => ?_
      refine go_aload_n (pc := 33) (j := 0) (i := 0) dX3_isNumber_33 rfl rfl ?_
      refine go_getI (pc := 34) (n := self) (ci := 3) (k := 42) fa_X3_321_3 t_self rfl dX3_isNumber_34 ?_
      refine go_istore_n (pc := 37) (j := 1) (i := 1) (A' := [(0, .ref self), (1, .int (mI u2 self 42))]) rfl (by decide) rfl rfl rfl dX3_isNumber_37 ?_
      exact go_weak (A' := [(0, .ref self), (1, .int (mI u2 self 42))]) (B' := []) ⟨rfl, rfl, trivial⟩ rfl (fun q h => by cases h) (g_X3_isNumber_L38 self t_self zFu (mI u2 self 42) u2)

def f_X3_puts (self : Nat) (p0 : Int32) (p1 : Int32) (u : zM) : Option (Int32 × zM) := lt (mR u self 48) fun r1 => oB r1 fun n1 => ix 8 (mN u n1) (lt (mR u n1 (xN 8)) fun r2 => oB r2 fun n2 => ix (mI u self 47) (mN u n2) (lt (mR u n2 (xN (mI u self 47))) fun r3 => oB r3 fun n3 => ix (2 * (mI u self 45)) (mN u n3) (lt (sI u n3 (xN (2 * (mI u self 45))) p0) fun u1 => lt (mR u1 self 48) fun r4 => oB r4 fun n4 => ix 8 (mN u1 n4) (lt (mR u1 n4 (xN 8)) fun r5 => oB r5 fun n5 => ix (mI u1 self 47) (mN u1 n5) (lt (mR u1 n5 (xN (mI u1 self 47))) fun r6 => oB r6 fun n6 => ix ((2 * (mI u1 self 45)) + 1) (mN u1 n6) (lt (sI u1 n6 (xN ((2 * (mI u1 self 45)) + 1)) p1) fun u2 => lt (sI u2 self 45 ((mI u2 self 45) + 1)) fun u3 => gb 1 (some (1, u3))))))))
set_option maxHeartbeats 4000000 in
theorem ct_X3_puts (self : Nat) (p0 : Int32) (p1 : Int32) (t_self : kd self = 3) : zMet yX3_puts cX3_puts 3 (some .boolean) 1 0 rvI (obT) [.ref self, .int p0, .int p1] (f_X3_puts self p0 p1) := by
  refine zMet_of (A := [(0, .ref self), (1, .int p0), (2, .int p1)]) (B := []) (ini := false) RX3 rfl (by decide +kernel) (fun h => by cases h) (by simp [lg_sl, Value.category]) (by simp [lv_args, Value.category]) rfl (by simp [lv_args, Value.category]) fun u => ?_
  unfold f_X3_puts
  refine go_aload_n (pc := 0) (j := 0) (i := 0) dX3_puts_0 rfl rfl ?_
  refine go_getR (pc := 1) (n := self) (ci := 3) (k := 48) (t := 24) fa_X3_127_3 t_self rfl dX3_puts_1 fun r1 t_r1 => ?_
  refine go_bipush (pc := 4) (v := 8) dX3_puts_4 (by decide) ?_
  refine go_oB fun n1 e_n1 => ?_
  have t_n1 := t_r1 n1 e_n1
  subst e_n1
  refine go_aald (pc := 6) (n := n1) (ci := 24) (t := 23) (by decide) (by decide) t_n1 rfl dX3_puts_6 fun r2 t_r2 => ?_
  refine go_aload_n (pc := 7) (j := 0) (i := 0) dX3_puts_7 rfl rfl ?_
  refine go_getI (pc := 8) (n := self) (ci := 3) (k := 47) fa_X3_354_3 t_self rfl dX3_puts_8 ?_
  refine go_oB fun n2 e_n2 => ?_
  have t_n2 := t_r2 n2 e_n2
  subst e_n2
  refine go_aald (pc := 11) (n := n2) (ci := 23) (t := 13) (by decide) (by decide) t_n2 rfl dX3_puts_11 fun r3 t_r3 => ?_
  refine go_iconst (pc := 12) (v := 2) dX3_puts_12 (by decide) ?_
  refine go_aload_n (pc := 13) (j := 0) (i := 0) dX3_puts_13 rfl rfl ?_
  refine go_getI (pc := 14) (n := self) (ci := 3) (k := 45) fa_X3_357_3 t_self rfl dX3_puts_14 ?_
  refine go_imul (pc := 17) dX3_puts_17 ?_
  refine go_iload_n (pc := 18) (j := 1) (i := 1) dX3_puts_18 rfl rfl ?_
  refine go_oB fun n3 e_n3 => ?_
  have t_n3 := t_r3 n3 e_n3
  subst e_n3
  refine go_iast (pc := 19) t_n3 dX3_puts_19 fun u1 => ?_
  refine go_aload_n (pc := 20) (j := 0) (i := 0) dX3_puts_20 rfl rfl ?_
  refine go_getR (pc := 21) (n := self) (ci := 3) (k := 48) (t := 24) fa_X3_127_3 t_self rfl dX3_puts_21 fun r4 t_r4 => ?_
  refine go_bipush (pc := 24) (v := 8) dX3_puts_24 (by decide) ?_
  refine go_oB fun n4 e_n4 => ?_
  have t_n4 := t_r4 n4 e_n4
  subst e_n4
  refine go_aald (pc := 26) (n := n4) (ci := 24) (t := 23) (by decide) (by decide) t_n4 rfl dX3_puts_26 fun r5 t_r5 => ?_
  refine go_aload_n (pc := 27) (j := 0) (i := 0) dX3_puts_27 rfl rfl ?_
  refine go_getI (pc := 28) (n := self) (ci := 3) (k := 47) fa_X3_354_3 t_self rfl dX3_puts_28 ?_
  refine go_oB fun n5 e_n5 => ?_
  have t_n5 := t_r5 n5 e_n5
  subst e_n5
  refine go_aald (pc := 31) (n := n5) (ci := 23) (t := 13) (by decide) (by decide) t_n5 rfl dX3_puts_31 fun r6 t_r6 => ?_
  refine go_iconst (pc := 32) (v := 2) dX3_puts_32 (by decide) ?_
  refine go_aload_n (pc := 33) (j := 0) (i := 0) dX3_puts_33 rfl rfl ?_
  refine go_getI (pc := 34) (n := self) (ci := 3) (k := 45) fa_X3_357_3 t_self rfl dX3_puts_34 ?_
  refine go_imul (pc := 37) dX3_puts_37 ?_
  refine go_iconst (pc := 38) (v := 1) dX3_puts_38 (by decide) ?_
  refine go_iadd (pc := 39) dX3_puts_39 ?_
  refine go_iload_n (pc := 40) (j := 2) (i := 2) dX3_puts_40 rfl rfl ?_
  refine go_oB fun n6 e_n6 => ?_
  have t_n6 := t_r6 n6 e_n6
  subst e_n6
  refine go_iast (pc := 41) t_n6 dX3_puts_41 fun u2 => ?_
  refine go_aload_n (pc := 42) (j := 0) (i := 0) dX3_puts_42 rfl rfl ?_
  refine go_dupA (pc := 43) dX3_puts_43 ?_
  refine go_getI (pc := 44) (n := self) (ci := 3) (k := 45) fa_X3_357_3 t_self rfl dX3_puts_44 ?_
  refine go_iconst (pc := 47) (v := 1) dX3_puts_47 (by decide) ?_
  refine go_iadd (pc := 48) dX3_puts_48 ?_
  refine go_putI (pc := 49) (n := self) (ci := 3) (k := 45) (v := ((mI u2 self 45) + 1)) pa_X3_357_3 (fun h => by cases h) t_self rfl zKeep_int dX3_puts_49 fun u3 => ?_
  refine go_iconst (pc := 52) (v := 1) dX3_puts_52 (by decide) ?_
  exact go_zreturn (pc := 53) rfl dX3_puts_53

def f_J1_coder (self : Nat) (u : zM) : Option (Int32 × zM) := if (1 : Int32) = 0 then (gn .byte 1 (some (1, u))) else (gn .byte 0 (some (0, u)))
set_option maxHeartbeats 4000000 in
theorem ct_J1_coder (self : Nat) (t_self : kd self = 27) : zMet yJ1_coder cJ1_coder 1 (some .byte) 1 0 rvI (obT) [.ref self] (f_J1_coder self) := by
  refine zMet_of (A := [(0, .ref self)]) (B := []) (ini := false) RJ1 rfl (by decide +kernel) (fun h => by cases h) (by simp [lg_sl, Value.category]) (by simp [lv_args, Value.category]) rfl (by simp [lv_args, Value.category]) fun u => ?_
  unfold f_J1_coder
  refine go_getsC (pc := 0) q773 dJ1_coder_0 ?_
  refine go_if_eq (pc := 3) (tgt := 13) dJ1_coder_3 (by decide) (fun h1 => ?_) (fun h1 => ?_)
  · refine go_iconst (pc := 13) (v := 1) dJ1_coder_13 (by decide) ?_
    exact go_nreturn (pc := 14) rfl dJ1_coder_14
  · refine go_aload_n (pc := 6) (j := 0) (i := 0) dJ1_coder_6 rfl rfl ?_
    refine go_strcoder (pc := 7) t_self q1962 dJ1_coder_7 ?_
    refine go_goto (pc := 10) (tgt := 14) dJ1_coder_10 (by decide) ?_
    exact go_nreturn (pc := 14) rfl dJ1_coder_14

def f_J1_length (self : Nat) (u : zM) : Option (Int32 × zM) := lt (nm 28 (nK self)) fun r1 => bd (f_J1_coder self u) fun v1 u1 => some (((Int32.ofNat (mN u r1)) >>> (v1 &&& 31)), u1)
set_option maxHeartbeats 4000000 in
theorem ct_J1_length (self : Nat) (t_self : kd self = 27) : zMet yJ1_length cJ1_length 1 (some .int) 2 20 rvI (obT) [.ref self] (f_J1_length self) := by
  refine zMet_of (A := [(0, .ref self)]) (B := []) (ini := false) RJ1 rfl (by decide +kernel) (fun h => by cases h) (by simp [lg_sl, Value.category]) (by simp [lv_args, Value.category]) rfl (by simp [lv_args, Value.category]) fun u => ?_
  unfold f_J1_length
  refine go_aload_n (pc := 0) (j := 0) (i := 0) dJ1_length_0 rfl rfl ?_
  refine go_strval (pc := 1) (ref := "") t_self q1963 dJ1_length_1 fun r1 t_r1 => ?_
  refine go_alenS (pc := 4) dJ1_length_4 t_r1 ?_
  refine go_aload_n (pc := 5) (j := 0) (i := 0) dJ1_length_5 rfl rfl ?_
  refine go_callVT (pc := 6) (ct_J1_coder self t_self) lk_J1_335 rfl rfl t_self ⟨by decide, by decide⟩ (Nat.le_of_ble_eq_true rfl) dJ1_length_6 rfl fun v1 u1 => ?_
  refine go_ishr (pc := 9) dJ1_length_9 ?_
  exact go_ireturn (pc := 10) rfl dJ1_length_10

def f_J1_isLatin1 (self : Nat) (u : zM) : Option (Int32 × zM) := if (1 : Int32) = 0 then (gb 0 (some (0, u))) else (if (0 : Int32) = 0 then (gb 1 (some (1, u))) else (gb 0 (some (0, u))))
set_option maxHeartbeats 4000000 in
theorem ct_J1_isLatin1 (self : Nat) (t_self : kd self = 27) : zMet yJ1_isLatin1 cJ1_isLatin1 1 (some .boolean) 1 0 rvI (obT) [.ref self] (f_J1_isLatin1 self) := by
  refine zMet_of (A := [(0, .ref self)]) (B := []) (ini := false) RJ1 rfl (by decide +kernel) (fun h => by cases h) (by simp [lg_sl, Value.category]) (by simp [lv_args, Value.category]) rfl (by simp [lv_args, Value.category]) fun u => ?_
  unfold f_J1_isLatin1
  refine go_getsC (pc := 0) q773 dJ1_isLatin1_0 ?_
  refine go_if_eq (pc := 3) (tgt := 17) dJ1_isLatin1_3 (by decide) (fun h1 => ?_) (fun h1 => ?_)
  · refine go_iconst (pc := 17) (v := 0) dJ1_isLatin1_17 (by decide) ?_
    exact go_zreturn (pc := 18) rfl dJ1_isLatin1_18
  · refine go_aload_n (pc := 6) (j := 0) (i := 0) dJ1_isLatin1_6 rfl rfl ?_
    refine go_strcoder (pc := 7) t_self q1962 dJ1_isLatin1_7 ?_
    refine go_if_ne (pc := 10) (tgt := 17) dJ1_isLatin1_10 (by decide) (fun h2 => ?_) (fun h2 => ?_)
    · refine go_iconst (pc := 13) (v := 1) dJ1_isLatin1_13 (by decide) ?_
      refine go_goto (pc := 14) (tgt := 18) dJ1_isLatin1_14 (by decide) ?_
      exact go_zreturn (pc := 18) rfl dJ1_isLatin1_18
    · refine go_iconst (pc := 17) (v := 0) dJ1_isLatin1_17 (by decide) ?_
      exact go_zreturn (pc := 18) rfl dJ1_isLatin1_18

def f_J1_checkIndex (p0 : Int32) (p1 : Int32) (u : zM) : Option (Unit × zM) := gck p0 p1 (some ((), u))
set_option maxHeartbeats 4000000 in
theorem ct_J1_checkIndex (p0 : Int32) (p1 : Int32) : zMet yJ1_checkIndex cJ1_checkIndex 2 (none) 1 22 rvV (obT) [.int p0, .int p1] (f_J1_checkIndex p0 p1) := by
  refine zMet_of (A := [(0, .int p0), (1, .int p1)]) (B := []) (ini := false) RJ1 rfl (by decide +kernel) (fun h => by cases h) (by simp [lg_sl, Value.category]) (by simp [lv_args, Value.category]) rfl (by simp [lv_args, Value.category]) fun u => ?_
  unfold f_J1_checkIndex
  refine go_iload_n (pc := 0) (j := 0) (i := 0) dJ1_checkIndex_0 rfl rfl ?_
  refine go_iload_n (pc := 1) (j := 1) (i := 1) dJ1_checkIndex_1 rfl rfl ?_
  refine go_ckIdx (pc := 2) dJ1_checkIndex_2 dJ1_checkIndex_5 dJ1_checkIndex_8 q812 lk_J1_1059 ⟨by decide, by decide⟩ (Nat.le_of_ble_eq_true rfl) ?_
  exact go_vreturn (pc := 9) rfl dJ1_checkIndex_9

def f_J2_charAt (p0 : Nat) (p1 : Int32) (u : zM) : Option (Int32 × zM) := bd (f_J1_checkIndex p1 (Int32.ofNat (mN u p0)) u) fun v1 u1 => ix p1 (mN u1 p0) (gn .char ((Int32.toUInt32 ((mI u1 p0 (xN p1)) &&& 255) % 65536).toInt32) (some (((Int32.toUInt32 ((mI u1 p0 (xN p1)) &&& 255) % 65536).toInt32), u1)))
set_option maxHeartbeats 4000000 in
theorem ct_J2_charAt (p0 : Nat) (p1 : Int32) (t_p0 : kd p0 = 28) : zMet yJ2_charAt cJ2_charAt 2 (some .char) 2 43 rvI (obT) [.ref p0, .int p1] (f_J2_charAt p0 p1) := by
  refine zMet_of (A := [(0, .ref p0), (1, .int p1)]) (B := []) (ini := false) RJ2 rfl (by decide +kernel) (fun h => by cases h) (by simp [lg_sl, Value.category]) (by simp [lv_args, Value.category]) rfl (by simp [lv_args, Value.category]) fun u => ?_
  unfold f_J2_charAt
  refine go_iload_n (pc := 0) (j := 1) (i := 1) dJ2_charAt_0 rfl rfl ?_
  refine go_aload_n (pc := 1) (j := 0) (i := 0) dJ2_charAt_1 rfl rfl ?_
  refine go_alenS (pc := 2) dJ2_charAt_2 t_p0 ?_
  refine go_callSV (pc := 3) (ct_J1_checkIndex p1 (Int32.ofNat (mN u p0))) lk_J2_9 rfl ⟨by decide, by decide⟩ (Nat.le_of_ble_eq_true rfl) dJ2_charAt_3 rfl fun v1 u1 => ?_
  refine go_aload_n (pc := 6) (j := 0) (i := 0) dJ2_charAt_6 rfl rfl ?_
  refine go_iload_n (pc := 7) (j := 1) (i := 1) dJ2_charAt_7 rfl rfl ?_
  refine go_bcld (pc := 8) t_p0 dJ2_charAt_8 ?_
  refine go_sipush (pc := 9) (v := 255) dJ2_charAt_9 (by decide) ?_
  refine go_iand (pc := 12) dJ2_charAt_12 ?_
  refine go_i2c (pc := 13) dJ2_charAt_13 ?_
  exact go_nreturn (pc := 14) rfl dJ2_charAt_14

def f_J1_charAt (self : Nat) (p0 : Int32) (u : zM) : Option (Int32 × zM) := bd (f_J1_isLatin1 self u) fun v1 u1 => if v1 = 0 then (none) else (lt (nm 28 (nK self)) fun r1 => bd (f_J2_charAt r1 p0 u1) fun v2 u2 => gn .char v2 (some (v2, u2)))
set_option maxHeartbeats 4000000 in
theorem ct_J1_charAt (self : Nat) (p0 : Int32) (t_self : kd self = 27) : zMet yJ1_charAt cJ1_charAt 2 (some .char) 3 64 rvI (obT) [.ref self, .int p0] (f_J1_charAt self p0) := by
  refine zMet_of (A := [(0, .ref self), (1, .int p0)]) (B := []) (ini := false) RJ1 rfl (by decide +kernel) (fun h => by cases h) (by simp [lg_sl, Value.category]) (by simp [lv_args, Value.category]) rfl (by simp [lv_args, Value.category]) fun u => ?_
  unfold f_J1_charAt
  refine go_aload_n (pc := 0) (j := 0) (i := 0) dJ1_charAt_0 rfl rfl ?_
  refine go_callVT (pc := 1) (ct_J1_isLatin1 self t_self) lk_J1_492 rfl rfl t_self ⟨by decide, by decide⟩ (Nat.le_of_ble_eq_true rfl) dJ1_charAt_1 rfl fun v1 u1 => ?_
  refine go_if_eq (pc := 4) (tgt := 16) dJ1_charAt_4 (by decide) (fun h1 => ?_) (fun h1 => ?_)
  · exact go_none
  · refine go_aload_n (pc := 7) (j := 0) (i := 0) dJ1_charAt_7 rfl rfl ?_
    refine go_strval (pc := 8) (ref := "") t_self q1963 dJ1_charAt_8 fun r1 t_r1 => ?_
    refine go_iload_n (pc := 11) (j := 1) (i := 1) dJ1_charAt_11 rfl rfl ?_
    refine go_callSI (pc := 12) (ct_J2_charAt r1 p0 t_r1) lk_J1_495 rfl ⟨by decide, by decide⟩ (Nat.le_of_ble_eq_true rfl) dJ1_charAt_12 rfl fun v2 u2 => ?_
    exact go_nreturn (pc := 15) rfl dJ1_charAt_15

def f_X3_isWord_L31 (x0 : Nat) (x1 : Nat) : Nat → Int32 → zM → Option (Int32 × zM)
  | 0, _, _ => none
  | n + 1, x2, u => bd (f_J1_length x1 u) fun v2 u2 => if v2 ≤ x2 then (gb 1 (some (1, u2))) else (lt (mR u2 x0 40) fun r1 => oB r1 fun n1 => ix ((mI u2 x0 42) + x2) (mN u2 n1) (bd (f_J1_charAt x1 x2 u2) fun v3 u3 => if (mI u2 n1 (xN ((mI u2 x0 42) + x2))) = v3 then (f_X3_isWord_L31 x0 x1 n (x2 + 1) u3) else (gb 0 (some (0, u3)))))
section
variable {c0 s0 : Nat} {tbv : List ExceptionTableEntry}
set_option maxHeartbeats 4000000 in
theorem g_X3_isWord_L31 (x0 : Nat) (x1 : Nat) (t_x0 : kd x0 = 3) (t_x1 : kd x1 = 27) : ∀ (n : Nat) (x2 : Int32) (u : zM), Go RX3 cX3_isWord 3 (some .boolean) false 4 85 [] (obT) (zQ rvI) c0 s0 31 [(0, .ref x0), (1, .ref x1), (2, .int x2)] [] [] u (f_X3_isWord_L31 x0 x1 n x2 u) := by
  intro n
  induction n with
  | zero => intros; exact go_none
  | succ n ih =>
    intro x2 u
    unfold f_X3_isWord_L31
    refine go_iload_n (pc := 31) (j := 2) (i := 2) dX3_isWord_31 rfl rfl ?_
    refine go_aload_n (pc := 32) (j := 1) (i := 1) dX3_isWord_32 rfl rfl ?_
    refine go_callVT (pc := 33) (ct_J1_length x1 t_x1) lk_X3_336 rfl rfl t_x1 ⟨by decide, by decide⟩ (Nat.le_of_ble_eq_true rfl) dX3_isWord_33 rfl fun v2 u2 => ?_
    refine go_icmp_ge (pc := 36) (tgt := 66) dX3_isWord_36 (by decide) (fun h3 => ?_) (fun h3 => ?_)
    · refine go_iconst (pc := 66) (v := 1) dX3_isWord_66 (by decide) ?_
      exact go_zreturn (pc := 67) rfl dX3_isWord_67
    · refine go_aload_n (pc := 39) (j := 0) (i := 0) dX3_isWord_39 rfl rfl ?_
      refine go_getR (pc := 40) (n := x0) (ci := 3) (k := 40) (t := 14) fa_X3_121_3 t_x0 rfl dX3_isWord_40 fun r1 t_r1 => ?_
      refine go_aload_n (pc := 43) (j := 0) (i := 0) dX3_isWord_43 rfl rfl ?_
      refine go_getI (pc := 44) (n := x0) (ci := 3) (k := 42) fa_X3_321_3 t_x0 rfl dX3_isWord_44 ?_
      refine go_iload_n (pc := 47) (j := 2) (i := 2) dX3_isWord_47 rfl rfl ?_
      refine go_iadd (pc := 48) dX3_isWord_48 ?_
      refine go_oB fun n1 e_n1 => ?_
      have t_n1 := t_r1 n1 e_n1
      subst e_n1
      refine go_bald (pc := 49) t_n1 dX3_isWord_49 ?_
      refine go_aload_n (pc := 50) (j := 1) (i := 1) dX3_isWord_50 rfl rfl ?_
      refine go_iload_n (pc := 51) (j := 2) (i := 2) dX3_isWord_51 rfl rfl ?_
      refine go_callVT (pc := 52) (ct_J1_charAt x1 x2 t_x1) lk_X3_340 rfl rfl t_x1 ⟨by decide, by decide⟩ (Nat.le_of_ble_eq_true rfl) dX3_isWord_52 rfl fun v3 u3 => ?_
      refine go_icmp_eq (pc := 55) (tgt := 60) dX3_isWord_55 (by decide) (fun h4 => ?_) (fun h4 => ?_)
      · refine go_iinc (pc := 60) (i := 2) (w := 1) (A' := [(0, .ref x0), (1, .ref x1), (2, .int (x2 + 1))]) rfl (by decide) (by decide) rfl rfl rfl dX3_isWord_60 ?_
        refine go_goto (pc := 63) (tgt := 31) dX3_isWord_63 (by decide) ?_
        exact go_weak (A' := [(0, .ref x0), (1, .ref x1), (2, .int (x2 + 1))]) (B' := []) ⟨rfl, rfl, rfl, trivial⟩ rfl (fun q h => by cases h) (ih (x2 + 1) u3)
      · refine go_iconst (pc := 58) (v := 0) dX3_isWord_58 (by decide) ?_
        exact go_zreturn (pc := 59) rfl dX3_isWord_59
end
def f_X3_isWord (self : Nat) (p0 : Nat) (u : zM) : Option (Int32 × zM) := bd (f_J1_length p0 u) fun v1 u1 => if ((mI u self 43) - (mI u self 42)) = v1 then (if (mI u1 self 42) = (mI u1 self 41) then (gb 0 (some (0, u1))) else (f_X3_isWord_L31 self p0 zFu 0 u1)) else (gb 0 (some (0, u1)))
set_option maxHeartbeats 4000000 in
theorem ct_X3_isWord (self : Nat) (p0 : Nat) (t_self : kd self = 3) (t_p0 : kd p0 = 27) : zMet yX3_isWord cX3_isWord 3 (some .boolean) 4 85 rvI (obT) [.ref self, .ref p0] (f_X3_isWord self p0) := by
  refine zMet_of (A := [(0, .ref self), (1, .ref p0)]) (B := []) (ini := false) RX3 rfl (by decide +kernel) (fun h => by cases h) (by simp [lg_sl, Value.category]) (by simp [lv_args, Value.category]) rfl (by simp [lv_args, Value.category]) fun u => ?_
  unfold f_X3_isWord
  refine go_aload_n (pc := 0) (j := 0) (i := 0) dX3_isWord_0 rfl rfl ?_
  refine go_getI (pc := 1) (n := self) (ci := 3) (k := 43) fa_X3_324_3 t_self rfl dX3_isWord_1 ?_
  refine go_aload_n (pc := 4) (j := 0) (i := 0) dX3_isWord_4 rfl rfl ?_
  refine go_getI (pc := 5) (n := self) (ci := 3) (k := 42) fa_X3_321_3 t_self rfl dX3_isWord_5 ?_
  refine go_isub (pc := 8) dX3_isWord_8 ?_
  refine go_aload_n (pc := 9) (j := 1) (i := 1) dX3_isWord_9 rfl rfl ?_
  refine go_callVT (pc := 10) (ct_J1_length p0 t_p0) lk_X3_336 rfl rfl t_p0 ⟨by decide, by decide⟩ (Nat.le_of_ble_eq_true rfl) dX3_isWord_10 rfl fun v1 u1 => ?_
  refine go_icmp_ne (pc := 13) (tgt := 27) dX3_isWord_13 (by decide) (fun h1 => ?_) (fun h1 => ?_)
  · refine go_aload_n (pc := 16) (j := 0) (i := 0) dX3_isWord_16 rfl rfl ?_
    refine go_getI (pc := 17) (n := self) (ci := 3) (k := 42) fa_X3_321_3 t_self rfl dX3_isWord_17 ?_
    refine go_aload_n (pc := 20) (j := 0) (i := 0) dX3_isWord_20 rfl rfl ?_
    refine go_getI (pc := 21) (n := self) (ci := 3) (k := 41) fa_X3_314_3 t_self rfl dX3_isWord_21 ?_
    refine go_icmp_ne (pc := 24) (tgt := 29) dX3_isWord_24 (by decide) (fun h2 => ?_) (fun h2 => ?_)
    · refine go_iconst (pc := 27) (v := 0) dX3_isWord_27 (by decide) ?_
      exact go_zreturn (pc := 28) rfl dX3_isWord_28
    · refine go_iconst (pc := 29) (v := 0) dX3_isWord_29 (by decide) ?_
      refine go_istore_n (pc := 30) (j := 2) (i := 2) (A' := [(0, .ref self), (1, .ref p0), (2, .int 0)]) rfl (by decide) rfl rfl rfl dX3_isWord_30 ?_
      exact go_weak (A' := [(0, .ref self), (1, .ref p0), (2, .int 0)]) (B' := []) ⟨rfl, rfl, rfl, trivial⟩ rfl (fun q h => by cases h) (g_X3_isWord_L31 self p0 t_self t_p0 zFu 0 u1)
  · refine go_iconst (pc := 27) (v := 0) dX3_isWord_27 (by decide) ?_
    exact go_zreturn (pc := 28) rfl dX3_isWord_28

def f_X3_factor_L105 (rc : Nat → Int32 → zM → Option (Int32 × zM)) (x0 : Nat) (k124 : Int32 → zM → Option (Int32 × zM)) : Nat → Int32 → zM → Option (Int32 × zM)
  | 0, _, _ => none
  | n + 1, x2, u => if 13 ≤ x2 then (bd (f_X3_fails x0 u) fun v3 u3 => gb v3 (some (v3, u3))) else (lt (mR u x0 55) fun r1 => oB r1 fun n1 => ix x2 (mN u n1) (lt (mR u n1 (xN x2)) fun r2 => oB r2 fun n2 => bd (f_X3_isWord x0 n2 u) fun v4 u4 => if v4 = 0 then (f_X3_factor_L105 rc x0 k124 n (x2 + 1) u4) else (k124 x2 u4)))
section
variable {c0 s0 : Nat} {tbv : List ExceptionTableEntry}
set_option maxHeartbeats 4000000 in
theorem g_X3_factor_L105 (rc : Nat → Int32 → zM → Option (Int32 × zM)) (x0 : Nat) (k124 : Int32 → zM → Option (Int32 × zM)) {FRm LOm Frc Lrc : Nat} (hrc : ∀ (self : Nat) (p0 : Int32), kd self = 3 → zMet yX3_sum cX3_sum 3 (some .boolean) Frc Lrc rvI (obT) [.ref self, .int p0] (rc self p0)) (hFrc : Frc ≤ FRm) (hLrc : Lrc ≤ LOm) (t_x0 : kd x0 = 3) (hk124 : ∀ (x2 : Int32) (u : zM), Go RX3 cX3_factor 3 (some .boolean) false (FRm + 5) (LOm + 107) [] (obT) (zQ rvI) c0 s0 124 [(0, .ref x0), (2, .int x2)] [] [] u (k124 x2 u)) : ∀ (n : Nat) (x2 : Int32) (u : zM), Go RX3 cX3_factor 3 (some .boolean) false (FRm + 5) (LOm + 107) [] (obT) (zQ rvI) c0 s0 105 [(0, .ref x0), (2, .int x2)] [] [] u (f_X3_factor_L105 rc x0 k124 n x2 u) := by
  intro n
  induction n with
  | zero => intros; exact go_none
  | succ n ih =>
    intro x2 u
    unfold f_X3_factor_L105
    refine go_iload_n (pc := 105) (j := 2) (i := 2) dX3_factor_105 rfl rfl ?_
    refine go_bipush (pc := 106) (v := 13) dX3_factor_106 (by decide) ?_
    refine go_icmp_ge (pc := 108) (tgt := 154) dX3_factor_108 (by decide) (fun h3 => ?_) (fun h3 => ?_)
    · refine go_aload_n (pc := 154) (j := 0) (i := 0) dX3_factor_154 rfl rfl ?_
      refine go_callVI (pc := 155) (ci := 3) (ct_X3_fails x0 t_x0) lk_X3_347 rfl rfl rfl (by decide) t_x0 ⟨by omega, by omega⟩ (Nat.le_of_ble_eq_true rfl) dX3_factor_155 rfl fun v3 u3 => ?_
      exact go_zreturn (pc := 158) rfl dX3_factor_158
    · refine go_aload_n (pc := 111) (j := 0) (i := 0) dX3_factor_111 rfl rfl ?_
      refine go_aload_n (pc := 112) (j := 0) (i := 0) dX3_factor_112 rfl rfl ?_
      refine go_getR (pc := 113) (n := x0) (ci := 3) (k := 55) (t := 26) fa_X3_176_3 t_x0 rfl dX3_factor_113 fun r1 t_r1 => ?_
      refine go_iload_n (pc := 116) (j := 2) (i := 2) dX3_factor_116 rfl rfl ?_
      refine go_oB fun n1 e_n1 => ?_
      have t_n1 := t_r1 n1 e_n1
      subst e_n1
      refine go_aald (pc := 117) (n := n1) (ci := 26) (t := 27) (by decide) (by decide) t_n1 rfl dX3_factor_117 fun r2 t_r2 => ?_
      refine go_oB fun n2 e_n2 => ?_
      have t_n2 := t_r2 n2 e_n2
      subst e_n2
      refine go_callVI (pc := 118) (ci := 3) (ct_X3_isWord x0 n2 t_x0 t_n2) lk_X3_382 rfl rfl rfl (by decide) t_x0 ⟨by omega, by omega⟩ (Nat.le_of_ble_eq_true rfl) dX3_factor_118 rfl fun v4 u4 => ?_
      refine go_if_eq (pc := 121) (tgt := 148) dX3_factor_121 (by decide) (fun h4 => ?_) (fun h4 => ?_)
      · refine go_iinc (pc := 148) (i := 2) (w := 1) (A' := [(0, .ref x0), (2, .int (x2 + 1))]) rfl (by decide) (by decide) rfl rfl rfl dX3_factor_148 ?_
        refine go_goto (pc := 151) (tgt := 105) dX3_factor_151 (by decide) ?_
        exact go_weak (A' := [(0, .ref x0), (2, .int (x2 + 1))]) (B' := []) ⟨rfl, rfl, trivial⟩ rfl (fun q h => by cases h) (ih (x2 + 1) u4)
      · exact go_weak (A' := [(0, .ref x0), (2, .int x2)]) (B' := []) ⟨rfl, rfl, trivial⟩ rfl (fun q h => by cases h) (hk124 x2 u4)
end
def b_X3_factor (rc : Nat → Int32 → zM → Option (Int32 × zM)) (self : Nat) (p0 : Int32) (u : zM) : Option (Int32 × zM) := bd (f_X3_isSign self 40 u) fun v1 u1 => if v1 = 0 then (bd (f_X3_isNumber self u1) fun v2 u2 => if v2 = 0 then (f_X3_factor_L105 rc self (fun z1 u5 => bd (f_X3_passes self 1 u5) fun v5 u6 => if v5 = 0 then (gb 0 (some (0, u6))) else (bd (f_X3_puts self 118 z1 u6) fun v6 u7 => if v6 = 0 then (gb 0 (some (0, u7))) else (gb 1 (some (1, u7))))) zFu 0 u2) else (if 9999 < (mI u2 self 46) then (bd (f_X3_passes self 0 u2) fun v7 u8 => if v7 = 0 then (gb 0 (some (0, u8))) else (bd (f_X3_puts self 110 (mI u2 self 46) u8) fun v8 u9 => if v8 = 0 then (gb 0 (some (0, u9))) else (gb 1 (some (1, u9))))) else (bd (f_X3_passes self 1 u2) fun v9 u10 => if v9 = 0 then (gb 0 (some (0, u10))) else (bd (f_X3_puts self 110 (mI u2 self 46) u10) fun v10 u11 => if v10 = 0 then (gb 0 (some (0, u11))) else (gb 1 (some (1, u11))))))) else (lt (fun (z2 : Int32) (u12 : zM) => bd (f_X3_passes self z2 u12) fun v11 u13 => if v11 = 0 then (gb 0 (some (0, u13))) else (bd (rc self (p0 + 1) u13) fun v12 u14 => if v12 = 0 then (gb 0 (some (0, u14))) else (bd (f_X3_isSign self 41 u14) fun v13 u15 => bd (f_X3_passes self v13 u15) fun v14 u16 => if v14 = 0 then (gb 0 (some (0, u16))) else (gb 1 (some (1, u16)))))) fun j1 => if 8 ≤ p0 then (j1 0 u1) else (j1 1 u1))
set_option maxHeartbeats 4000000 in
theorem cb_X3_factor (rc : Nat → Int32 → zM → Option (Int32 × zM)) {FRm LOm Frc Lrc : Nat} (hrc : ∀ (self : Nat) (p0 : Int32), kd self = 3 → zMet yX3_sum cX3_sum 3 (some .boolean) Frc Lrc rvI (obT) [.ref self, .int p0] (rc self p0)) (hFrc : Frc ≤ FRm) (hLrc : Lrc ≤ LOm) (self : Nat) (p0 : Int32) (t_self : kd self = 3) : zMet yX3_factor cX3_factor 3 (some .boolean) (FRm + 5) (LOm + 107) rvI (obT) [.ref self, .int p0] (b_X3_factor rc self p0) := by
  refine zMet_of (A := [(0, .ref self), (1, .int p0)]) (B := []) (ini := false) RX3 rfl (by decide +kernel) (fun h => by cases h) (by simp [lg_sl, Value.category]) (by simp [lv_args, Value.category]) rfl (by simp [lv_args, Value.category]) fun u => ?_
  unfold b_X3_factor
  refine go_aload_n (pc := 0) (j := 0) (i := 0) dX3_factor_0 rfl rfl ?_
  refine go_bipush (pc := 1) (v := 40) dX3_factor_1 (by decide) ?_
  refine go_callVI (pc := 3) (ci := 3) (ct_X3_isSign self 40 t_self) lk_X3_365 rfl rfl rfl (by decide) t_self ⟨by omega, by omega⟩ (Nat.le_of_ble_eq_true rfl) dX3_factor_3 rfl fun v1 u1 => ?_
  refine go_if_eq (pc := 6) (tgt := 56) dX3_factor_6 (by decide) (fun h1 => ?_) (fun h1 => ?_)
  · refine go_aload_n (pc := 56) (j := 0) (i := 0) dX3_factor_56 rfl rfl ?_
    refine go_callVI (pc := 57) (ci := 3) (ct_X3_isNumber self t_self) lk_X3_375 rfl rfl rfl (by decide) t_self ⟨by omega, by omega⟩ (Nat.le_of_ble_eq_true rfl) dX3_factor_57 rfl fun v2 u2 => ?_
    refine go_if_eq (pc := 60) (tgt := 103) dX3_factor_60 (by decide) (fun h2 => ?_) (fun h2 => ?_)
    · refine go_iconst (pc := 103) (v := 0) dX3_factor_103 (by decide) ?_
      refine go_istore_n (pc := 104) (j := 2) (i := 2) (A' := [(0, .ref self), (1, .int p0), (2, .int 0)]) rfl (by decide) rfl rfl rfl dX3_factor_104 ?_
      refine go_weak (A' := [(0, .ref self), (2, .int 0)]) (B' := []) ⟨rfl, rfl, trivial⟩ rfl (fun q h => by cases h) (g_X3_factor_L105 rc self _ hrc hFrc hLrc t_self ?_ zFu 0 u2)
      · intro z1 u5
        refine go_aload_n (pc := 124) (j := 0) (i := 0) dX3_factor_124 rfl rfl ?_
        refine go_iconst (pc := 125) (v := 1) dX3_factor_125 (by decide) ?_
        refine go_callVI (pc := 126) (ci := 3) (ct_X3_passes self 1 t_self) lk_X3_368 rfl rfl rfl (by decide) t_self ⟨by omega, by omega⟩ (Nat.le_of_ble_eq_true rfl) dX3_factor_126 rfl fun v5 u6 => ?_
        refine go_if_eq (pc := 129) (tgt := 146) dX3_factor_129 (by decide) (fun h5 => ?_) (fun h5 => ?_)
        · refine go_iconst (pc := 146) (v := 0) dX3_factor_146 (by decide) ?_
          exact go_zreturn (pc := 147) rfl dX3_factor_147
        · refine go_aload_n (pc := 132) (j := 0) (i := 0) dX3_factor_132 rfl rfl ?_
          refine go_bipush (pc := 133) (v := 118) dX3_factor_133 (by decide) ?_
          refine go_iload_n (pc := 135) (j := 2) (i := 2) dX3_factor_135 rfl rfl ?_
          refine go_callVI (pc := 136) (ci := 3) (ct_X3_puts self 118 z1 t_self) lk_X3_378 rfl rfl rfl (by decide) t_self ⟨by omega, by omega⟩ (Nat.le_of_ble_eq_true rfl) dX3_factor_136 rfl fun v6 u7 => ?_
          refine go_if_eq (pc := 139) (tgt := 146) dX3_factor_139 (by decide) (fun h6 => ?_) (fun h6 => ?_)
          · refine go_iconst (pc := 146) (v := 0) dX3_factor_146 (by decide) ?_
            exact go_zreturn (pc := 147) rfl dX3_factor_147
          · refine go_iconst (pc := 142) (v := 1) dX3_factor_142 (by decide) ?_
            refine go_goto (pc := 143) (tgt := 147) dX3_factor_143 (by decide) ?_
            exact go_zreturn (pc := 147) rfl dX3_factor_147
    · refine go_aload_n (pc := 63) (j := 0) (i := 0) dX3_factor_63 rfl rfl ?_
      refine go_getI (pc := 64) (n := self) (ci := 3) (k := 46) fa_X3_360_3 t_self rfl dX3_factor_64 ?_
      refine go_istore_n (pc := 67) (j := 2) (i := 2) (A' := [(0, .ref self), (1, .int p0), (2, .int (mI u2 self 46))]) rfl (by decide) rfl rfl rfl dX3_factor_67 ?_
      refine go_aload_n (pc := 68) (j := 0) (i := 0) dX3_factor_68 rfl rfl ?_
      refine go_iload_n (pc := 69) (j := 2) (i := 2) dX3_factor_69 rfl rfl ?_
      refine go_sipush (pc := 70) (v := 9999) dX3_factor_70 (by decide) ?_
      refine go_icmp_gt (pc := 73) (tgt := 80) dX3_factor_73 (by decide) (fun h7 => ?_) (fun h7 => ?_)
      · refine go_iconst (pc := 80) (v := 0) dX3_factor_80 (by decide) ?_
        refine go_callVI (pc := 81) (ci := 3) (ct_X3_passes self 0 t_self) lk_X3_368 rfl rfl rfl (by decide) t_self ⟨by omega, by omega⟩ (Nat.le_of_ble_eq_true rfl) dX3_factor_81 rfl fun v7 u8 => ?_
        refine go_if_eq (pc := 84) (tgt := 101) dX3_factor_84 (by decide) (fun h8 => ?_) (fun h8 => ?_)
        · refine go_iconst (pc := 101) (v := 0) dX3_factor_101 (by decide) ?_
          exact go_zreturn (pc := 102) rfl dX3_factor_102
        · refine go_aload_n (pc := 87) (j := 0) (i := 0) dX3_factor_87 rfl rfl ?_
          refine go_bipush (pc := 88) (v := 110) dX3_factor_88 (by decide) ?_
          refine go_iload_n (pc := 90) (j := 2) (i := 2) dX3_factor_90 rfl rfl ?_
          refine go_callVI (pc := 91) (ci := 3) (ct_X3_puts self 110 (mI u2 self 46) t_self) lk_X3_378 rfl rfl rfl (by decide) t_self ⟨by omega, by omega⟩ (Nat.le_of_ble_eq_true rfl) dX3_factor_91 rfl fun v8 u9 => ?_
          refine go_if_eq (pc := 94) (tgt := 101) dX3_factor_94 (by decide) (fun h9 => ?_) (fun h9 => ?_)
          · refine go_iconst (pc := 101) (v := 0) dX3_factor_101 (by decide) ?_
            exact go_zreturn (pc := 102) rfl dX3_factor_102
          · refine go_iconst (pc := 97) (v := 1) dX3_factor_97 (by decide) ?_
            refine go_goto (pc := 98) (tgt := 102) dX3_factor_98 (by decide) ?_
            exact go_zreturn (pc := 102) rfl dX3_factor_102
      · refine go_iconst (pc := 76) (v := 1) dX3_factor_76 (by decide) ?_
        refine go_goto (pc := 77) (tgt := 81) dX3_factor_77 (by decide) ?_
        refine go_callVI (pc := 81) (ci := 3) (ct_X3_passes self 1 t_self) lk_X3_368 rfl rfl rfl (by decide) t_self ⟨by omega, by omega⟩ (Nat.le_of_ble_eq_true rfl) dX3_factor_81 rfl fun v9 u10 => ?_
        refine go_if_eq (pc := 84) (tgt := 101) dX3_factor_84 (by decide) (fun h10 => ?_) (fun h10 => ?_)
        · refine go_iconst (pc := 101) (v := 0) dX3_factor_101 (by decide) ?_
          exact go_zreturn (pc := 102) rfl dX3_factor_102
        · refine go_aload_n (pc := 87) (j := 0) (i := 0) dX3_factor_87 rfl rfl ?_
          refine go_bipush (pc := 88) (v := 110) dX3_factor_88 (by decide) ?_
          refine go_iload_n (pc := 90) (j := 2) (i := 2) dX3_factor_90 rfl rfl ?_
          refine go_callVI (pc := 91) (ci := 3) (ct_X3_puts self 110 (mI u2 self 46) t_self) lk_X3_378 rfl rfl rfl (by decide) t_self ⟨by omega, by omega⟩ (Nat.le_of_ble_eq_true rfl) dX3_factor_91 rfl fun v10 u11 => ?_
          refine go_if_eq (pc := 94) (tgt := 101) dX3_factor_94 (by decide) (fun h11 => ?_) (fun h11 => ?_)
          · refine go_iconst (pc := 101) (v := 0) dX3_factor_101 (by decide) ?_
            exact go_zreturn (pc := 102) rfl dX3_factor_102
          · refine go_iconst (pc := 97) (v := 1) dX3_factor_97 (by decide) ?_
            refine go_goto (pc := 98) (tgt := 102) dX3_factor_98 (by decide) ?_
            exact go_zreturn (pc := 102) rfl dX3_factor_102
  · refine go_aload_n (pc := 9) (j := 0) (i := 0) dX3_factor_9 rfl rfl ?_
    refine go_iload_n (pc := 10) (j := 1) (i := 1) dX3_factor_10 rfl rfl ?_
    refine go_bipush (pc := 11) (v := 8) dX3_factor_11 (by decide) ?_
    refine go_join1 (pcx := 21) (α1 := Int32) (fun z2 => [(0, .ref self), (1, .int p0)]) (fun z2 => []) (fun z2 => [.int z2, .ref self]) (fun z2 => True) (fun z2 u12 _ => ?_) (fun j1 hj1 => ?_)
    · refine go_callVI (pc := 21) (ci := 3) (ct_X3_passes self z2 t_self) lk_X3_368 rfl rfl rfl (by decide) t_self ⟨by omega, by omega⟩ (Nat.le_of_ble_eq_true rfl) dX3_factor_21 rfl fun v11 u13 => ?_
      refine go_if_eq (pc := 24) (tgt := 54) dX3_factor_24 (by decide) (fun h12 => ?_) (fun h12 => ?_)
      · refine go_iconst (pc := 54) (v := 0) dX3_factor_54 (by decide) ?_
        exact go_zreturn (pc := 55) rfl dX3_factor_55
      · refine go_aload_n (pc := 27) (j := 0) (i := 0) dX3_factor_27 rfl rfl ?_
        refine go_iload_n (pc := 28) (j := 1) (i := 1) dX3_factor_28 rfl rfl ?_
        refine go_iconst (pc := 29) (v := 1) dX3_factor_29 (by decide) ?_
        refine go_iadd (pc := 30) dX3_factor_30 ?_
        refine go_callVI (pc := 31) (ci := 3) (hrc self (p0 + 1) t_self) lk_X3_372 rfl rfl rfl (by decide) t_self ⟨by omega, by omega⟩ (Nat.le_of_ble_eq_true rfl) dX3_factor_31 rfl fun v12 u14 => ?_
        refine go_if_eq (pc := 34) (tgt := 54) dX3_factor_34 (by decide) (fun h13 => ?_) (fun h13 => ?_)
        · refine go_iconst (pc := 54) (v := 0) dX3_factor_54 (by decide) ?_
          exact go_zreturn (pc := 55) rfl dX3_factor_55
        · refine go_aload_n (pc := 37) (j := 0) (i := 0) dX3_factor_37 rfl rfl ?_
          refine go_aload_n (pc := 38) (j := 0) (i := 0) dX3_factor_38 rfl rfl ?_
          refine go_bipush (pc := 39) (v := 41) dX3_factor_39 (by decide) ?_
          refine go_callVI (pc := 41) (ci := 3) (ct_X3_isSign self 41 t_self) lk_X3_365 rfl rfl rfl (by decide) t_self ⟨by omega, by omega⟩ (Nat.le_of_ble_eq_true rfl) dX3_factor_41 rfl fun v13 u15 => ?_
          refine go_callVI (pc := 44) (ci := 3) (ct_X3_passes self v13 t_self) lk_X3_368 rfl rfl rfl (by decide) t_self ⟨by omega, by omega⟩ (Nat.le_of_ble_eq_true rfl) dX3_factor_44 rfl fun v14 u16 => ?_
          refine go_if_eq (pc := 47) (tgt := 54) dX3_factor_47 (by decide) (fun h14 => ?_) (fun h14 => ?_)
          · refine go_iconst (pc := 54) (v := 0) dX3_factor_54 (by decide) ?_
            exact go_zreturn (pc := 55) rfl dX3_factor_55
          · refine go_iconst (pc := 50) (v := 1) dX3_factor_50 (by decide) ?_
            refine go_goto (pc := 51) (tgt := 55) dX3_factor_51 (by decide) ?_
            exact go_zreturn (pc := 55) rfl dX3_factor_55
    · refine go_icmp_ge (pc := 13) (tgt := 20) dX3_factor_13 (by decide) (fun h15 => ?_) (fun h15 => ?_)
      · refine go_iconst (pc := 20) (v := 0) dX3_factor_20 (by decide) ?_
        exact go_weak (A' := [(0, .ref self), (1, .int p0)]) (B' := []) ⟨rfl, rfl, trivial⟩ rfl (fun q h => by cases h) (hj1 0 u1 trivial)
      · refine go_iconst (pc := 16) (v := 1) dX3_factor_16 (by decide) ?_
        refine go_goto (pc := 17) (tgt := 21) dX3_factor_17 (by decide) ?_
        exact go_weak (A' := [(0, .ref self), (1, .int p0)]) (B' := []) ⟨rfl, rfl, trivial⟩ rfl (fun q h => by cases h) (hj1 1 u1 trivial)

def f_X3_product_L10 (rc : Nat → Int32 → zM → Option (Int32 × zM)) (x0 : Nat) (x1 : Int32) : Nat → zM → Option (Int32 × zM)
  | 0, _ => none
  | n + 1, u => bd (f_X3_isSign x0 42 u) fun v2 u2 => lt (fun (u3 : zM) => lt (mR u3 x0 40) fun r1 => oB r1 fun n1 => ix (mI u3 x0 42) (mN u3 n1) (bd (f_X3_goesOn x0 u3) fun v3 u4 => bd (rc x0 x1 u4) fun v4 u5 => if v4 = 0 then (gb 0 (some (0, u5))) else (bd (f_X3_puts x0 (mI u3 n1 (xN (mI u3 x0 42))) 0 u5) fun v5 u6 => f_X3_product_L10 rc x0 x1 n u6))) fun j1 => if v2 = 0 then (bd (f_X3_isSign x0 47 u2) fun v6 u7 => if v6 = 0 then (gb 1 (some (1, u7))) else (j1 u7)) else (j1 u2)
section
variable {c0 s0 : Nat} {tbv : List ExceptionTableEntry}
set_option maxHeartbeats 4000000 in
theorem g_X3_product_L10 (rc : Nat → Int32 → zM → Option (Int32 × zM)) (x0 : Nat) (x1 : Int32) {FRm LOm Frc Lrc : Nat} (hrc : ∀ (self : Nat) (p0 : Int32), kd self = 3 → zMet yX3_factor cX3_factor 3 (some .boolean) Frc Lrc rvI (obT) [.ref self, .int p0] (rc self p0)) (hFrc : Frc ≤ FRm) (hLrc : Lrc ≤ LOm) (t_x0 : kd x0 = 3) : ∀ (n : Nat) (u : zM), Go RX3 cX3_product 3 (some .boolean) false (FRm + 4) (LOm + 60) [] (obT) (zQ rvI) c0 s0 10 [(0, .ref x0), (1, .int x1)] [] [] u (f_X3_product_L10 rc x0 x1 n u) := by
  intro n
  induction n with
  | zero => intros; exact go_none
  | succ n ih =>
    intro u
    unfold f_X3_product_L10
    refine go_aload_n (pc := 10) (j := 0) (i := 0) dX3_product_10 rfl rfl ?_
    refine go_bipush (pc := 11) (v := 42) dX3_product_11 (by decide) ?_
    refine go_callVI (pc := 13) (ci := 3) (ct_X3_isSign x0 42 t_x0) lk_X3_365 rfl rfl rfl (by decide) t_x0 ⟨by omega, by omega⟩ (Nat.le_of_ble_eq_true rfl) dX3_product_13 rfl fun v2 u2 => ?_
    refine go_join0 (pcx := 28) ([(0, .ref x0), (1, .int x1)]) ([]) ([]) (True) (fun u3 _ => ?_) (fun j1 hj1 => ?_)
    · refine go_aload_n (pc := 28) (j := 0) (i := 0) dX3_product_28 rfl rfl ?_
      refine go_getR (pc := 29) (n := x0) (ci := 3) (k := 40) (t := 14) fa_X3_121_3 t_x0 rfl dX3_product_29 fun r1 t_r1 => ?_
      refine go_aload_n (pc := 32) (j := 0) (i := 0) dX3_product_32 rfl rfl ?_
      refine go_getI (pc := 33) (n := x0) (ci := 3) (k := 42) fa_X3_321_3 t_x0 rfl dX3_product_33 ?_
      refine go_oB fun n1 e_n1 => ?_
      have t_n1 := t_r1 n1 e_n1
      subst e_n1
      refine go_bald (pc := 36) t_n1 dX3_product_36 ?_
      refine go_istore_n (pc := 37) (j := 2) (i := 2) (A' := [(0, .ref x0), (1, .int x1), (2, .int (mI u3 n1 (xN (mI u3 x0 42))))]) rfl (by decide) rfl rfl rfl dX3_product_37 ?_
      refine go_aload_n (pc := 38) (j := 0) (i := 0) dX3_product_38 rfl rfl ?_
      refine go_callVV (pc := 39) (ci := 3) (ct_X3_goesOn x0 t_x0) lk_X3_351 rfl rfl rfl (by decide) t_x0 ⟨by omega, by omega⟩ (Nat.le_of_ble_eq_true rfl) dX3_product_39 rfl fun v3 u4 => ?_
      refine go_aload_n (pc := 42) (j := 0) (i := 0) dX3_product_42 rfl rfl ?_
      refine go_iload_n (pc := 43) (j := 1) (i := 1) dX3_product_43 rfl rfl ?_
      refine go_callVI (pc := 44) (ci := 3) (hrc x0 x1 t_x0) lk_X3_386 rfl rfl rfl (by decide) t_x0 ⟨by omega, by omega⟩ (Nat.le_of_ble_eq_true rfl) dX3_product_44 rfl fun v4 u5 => ?_
      refine go_if_ne (pc := 47) (tgt := 52) dX3_product_47 (by decide) (fun h2 => ?_) (fun h2 => ?_)
      · refine go_iconst (pc := 50) (v := 0) dX3_product_50 (by decide) ?_
        exact go_zreturn (pc := 51) rfl dX3_product_51
      · refine go_aload_n (pc := 52) (j := 0) (i := 0) dX3_product_52 rfl rfl ?_
        refine go_iload_n (pc := 53) (j := 2) (i := 2) dX3_product_53 rfl rfl ?_
        refine go_iconst (pc := 54) (v := 0) dX3_product_54 (by decide) ?_
        refine go_callVI (pc := 55) (ci := 3) (ct_X3_puts x0 (mI u3 n1 (xN (mI u3 x0 42))) 0 t_x0) lk_X3_378 rfl rfl rfl (by decide) t_x0 ⟨by omega, by omega⟩ (Nat.le_of_ble_eq_true rfl) dX3_product_55 rfl fun v5 u6 => ?_
        refine go_popI (pc := 58) dX3_product_58 ?_
        refine go_goto (pc := 59) (tgt := 10) dX3_product_59 (by decide) ?_
        exact go_weak (A' := [(0, .ref x0), (1, .int x1)]) (B' := []) ⟨rfl, rfl, trivial⟩ rfl (fun q h => by cases h) (ih u6)
    · refine go_if_ne (pc := 16) (tgt := 28) dX3_product_16 (by decide) (fun h3 => ?_) (fun h3 => ?_)
      · refine go_aload_n (pc := 19) (j := 0) (i := 0) dX3_product_19 rfl rfl ?_
        refine go_bipush (pc := 20) (v := 47) dX3_product_20 (by decide) ?_
        refine go_callVI (pc := 22) (ci := 3) (ct_X3_isSign x0 47 t_x0) lk_X3_365 rfl rfl rfl (by decide) t_x0 ⟨by omega, by omega⟩ (Nat.le_of_ble_eq_true rfl) dX3_product_22 rfl fun v6 u7 => ?_
        refine go_if_eq (pc := 25) (tgt := 62) dX3_product_25 (by decide) (fun h4 => ?_) (fun h4 => ?_)
        · refine go_iconst (pc := 62) (v := 1) dX3_product_62 (by decide) ?_
          exact go_zreturn (pc := 63) rfl dX3_product_63
        · exact go_weak (A' := [(0, .ref x0), (1, .int x1)]) (B' := []) ⟨rfl, rfl, trivial⟩ rfl (fun q h => by cases h) (hj1 u7 trivial)
      · exact go_weak (A' := [(0, .ref x0), (1, .int x1)]) (B' := []) ⟨rfl, rfl, trivial⟩ rfl (fun q h => by cases h) (hj1 u2 trivial)
end
def b_X3_product (rc : Nat → Int32 → zM → Option (Int32 × zM)) (self : Nat) (p0 : Int32) (u : zM) : Option (Int32 × zM) := bd (rc self p0 u) fun v1 u1 => if v1 = 0 then (gb 0 (some (0, u1))) else (f_X3_product_L10 rc self p0 zFu u1)
set_option maxHeartbeats 4000000 in
theorem cb_X3_product (rc : Nat → Int32 → zM → Option (Int32 × zM)) {FRm LOm Frc Lrc : Nat} (hrc : ∀ (self : Nat) (p0 : Int32), kd self = 3 → zMet yX3_factor cX3_factor 3 (some .boolean) Frc Lrc rvI (obT) [.ref self, .int p0] (rc self p0)) (hFrc : Frc ≤ FRm) (hLrc : Lrc ≤ LOm) (self : Nat) (p0 : Int32) (t_self : kd self = 3) : zMet yX3_product cX3_product 3 (some .boolean) (FRm + 4) (LOm + 60) rvI (obT) [.ref self, .int p0] (b_X3_product rc self p0) := by
  refine zMet_of (A := [(0, .ref self), (1, .int p0)]) (B := []) (ini := false) RX3 rfl (by decide +kernel) (fun h => by cases h) (by simp [lg_sl, Value.category]) (by simp [lv_args, Value.category]) rfl (by simp [lv_args, Value.category]) fun u => ?_
  unfold b_X3_product
  refine go_aload_n (pc := 0) (j := 0) (i := 0) dX3_product_0 rfl rfl ?_
  refine go_iload_n (pc := 1) (j := 1) (i := 1) dX3_product_1 rfl rfl ?_
  refine go_callVI (pc := 2) (ci := 3) (hrc self p0 t_self) lk_X3_386 rfl rfl rfl (by decide) t_self ⟨by omega, by omega⟩ (Nat.le_of_ble_eq_true rfl) dX3_product_2 rfl fun v1 u1 => ?_
  refine go_if_ne (pc := 5) (tgt := 10) dX3_product_5 (by decide) (fun h1 => ?_) (fun h1 => ?_)
  · refine go_iconst (pc := 8) (v := 0) dX3_product_8 (by decide) ?_
    exact go_zreturn (pc := 9) rfl dX3_product_9
  · exact go_weak (A' := [(0, .ref self), (1, .int p0)]) (B' := []) ⟨rfl, rfl, trivial⟩ rfl (fun q h => by cases h) (g_X3_product_L10 rc self p0 hrc hFrc hLrc t_self zFu u1)

def f_X3_sum_L10 (rc : Nat → Int32 → zM → Option (Int32 × zM)) (x0 : Nat) (x1 : Int32) : Nat → zM → Option (Int32 × zM)
  | 0, _ => none
  | n + 1, u => bd (f_X3_isSign x0 43 u) fun v2 u2 => lt (fun (u3 : zM) => lt (mR u3 x0 40) fun r1 => oB r1 fun n1 => ix (mI u3 x0 42) (mN u3 n1) (bd (f_X3_goesOn x0 u3) fun v3 u4 => bd (rc x0 x1 u4) fun v4 u5 => if v4 = 0 then (gb 0 (some (0, u5))) else (bd (f_X3_puts x0 (mI u3 n1 (xN (mI u3 x0 42))) 0 u5) fun v5 u6 => f_X3_sum_L10 rc x0 x1 n u6))) fun j1 => if v2 = 0 then (bd (f_X3_isSign x0 45 u2) fun v6 u7 => if v6 = 0 then (gb 1 (some (1, u7))) else (j1 u7)) else (j1 u2)
section
variable {c0 s0 : Nat} {tbv : List ExceptionTableEntry}
set_option maxHeartbeats 4000000 in
theorem g_X3_sum_L10 (rc : Nat → Int32 → zM → Option (Int32 × zM)) (x0 : Nat) (x1 : Int32) {FRm LOm Frc Lrc : Nat} (hrc : ∀ (self : Nat) (p0 : Int32), kd self = 3 → zMet yX3_product cX3_product 3 (some .boolean) Frc Lrc rvI (obT) [.ref self, .int p0] (rc self p0)) (hFrc : Frc ≤ FRm) (hLrc : Lrc ≤ LOm) (t_x0 : kd x0 = 3) : ∀ (n : Nat) (u : zM), Go RX3 cX3_sum 3 (some .boolean) false (FRm + 4) (LOm + 60) [] (obT) (zQ rvI) c0 s0 10 [(0, .ref x0), (1, .int x1)] [] [] u (f_X3_sum_L10 rc x0 x1 n u) := by
  intro n
  induction n with
  | zero => intros; exact go_none
  | succ n ih =>
    intro u
    unfold f_X3_sum_L10
    refine go_aload_n (pc := 10) (j := 0) (i := 0) dX3_sum_10 rfl rfl ?_
    refine go_bipush (pc := 11) (v := 43) dX3_sum_11 (by decide) ?_
    refine go_callVI (pc := 13) (ci := 3) (ct_X3_isSign x0 43 t_x0) lk_X3_365 rfl rfl rfl (by decide) t_x0 ⟨by omega, by omega⟩ (Nat.le_of_ble_eq_true rfl) dX3_sum_13 rfl fun v2 u2 => ?_
    refine go_join0 (pcx := 28) ([(0, .ref x0), (1, .int x1)]) ([]) ([]) (True) (fun u3 _ => ?_) (fun j1 hj1 => ?_)
    · refine go_aload_n (pc := 28) (j := 0) (i := 0) dX3_sum_28 rfl rfl ?_
      refine go_getR (pc := 29) (n := x0) (ci := 3) (k := 40) (t := 14) fa_X3_121_3 t_x0 rfl dX3_sum_29 fun r1 t_r1 => ?_
      refine go_aload_n (pc := 32) (j := 0) (i := 0) dX3_sum_32 rfl rfl ?_
      refine go_getI (pc := 33) (n := x0) (ci := 3) (k := 42) fa_X3_321_3 t_x0 rfl dX3_sum_33 ?_
      refine go_oB fun n1 e_n1 => ?_
      have t_n1 := t_r1 n1 e_n1
      subst e_n1
      refine go_bald (pc := 36) t_n1 dX3_sum_36 ?_
      refine go_istore_n (pc := 37) (j := 2) (i := 2) (A' := [(0, .ref x0), (1, .int x1), (2, .int (mI u3 n1 (xN (mI u3 x0 42))))]) rfl (by decide) rfl rfl rfl dX3_sum_37 ?_
      refine go_aload_n (pc := 38) (j := 0) (i := 0) dX3_sum_38 rfl rfl ?_
      refine go_callVV (pc := 39) (ci := 3) (ct_X3_goesOn x0 t_x0) lk_X3_351 rfl rfl rfl (by decide) t_x0 ⟨by omega, by omega⟩ (Nat.le_of_ble_eq_true rfl) dX3_sum_39 rfl fun v3 u4 => ?_
      refine go_aload_n (pc := 42) (j := 0) (i := 0) dX3_sum_42 rfl rfl ?_
      refine go_iload_n (pc := 43) (j := 1) (i := 1) dX3_sum_43 rfl rfl ?_
      refine go_callVI (pc := 44) (ci := 3) (hrc x0 x1 t_x0) lk_X3_389 rfl rfl rfl (by decide) t_x0 ⟨by omega, by omega⟩ (Nat.le_of_ble_eq_true rfl) dX3_sum_44 rfl fun v4 u5 => ?_
      refine go_if_ne (pc := 47) (tgt := 52) dX3_sum_47 (by decide) (fun h2 => ?_) (fun h2 => ?_)
      · refine go_iconst (pc := 50) (v := 0) dX3_sum_50 (by decide) ?_
        exact go_zreturn (pc := 51) rfl dX3_sum_51
      · refine go_aload_n (pc := 52) (j := 0) (i := 0) dX3_sum_52 rfl rfl ?_
        refine go_iload_n (pc := 53) (j := 2) (i := 2) dX3_sum_53 rfl rfl ?_
        refine go_iconst (pc := 54) (v := 0) dX3_sum_54 (by decide) ?_
        refine go_callVI (pc := 55) (ci := 3) (ct_X3_puts x0 (mI u3 n1 (xN (mI u3 x0 42))) 0 t_x0) lk_X3_378 rfl rfl rfl (by decide) t_x0 ⟨by omega, by omega⟩ (Nat.le_of_ble_eq_true rfl) dX3_sum_55 rfl fun v5 u6 => ?_
        refine go_popI (pc := 58) dX3_sum_58 ?_
        refine go_goto (pc := 59) (tgt := 10) dX3_sum_59 (by decide) ?_
        exact go_weak (A' := [(0, .ref x0), (1, .int x1)]) (B' := []) ⟨rfl, rfl, trivial⟩ rfl (fun q h => by cases h) (ih u6)
    · refine go_if_ne (pc := 16) (tgt := 28) dX3_sum_16 (by decide) (fun h3 => ?_) (fun h3 => ?_)
      · refine go_aload_n (pc := 19) (j := 0) (i := 0) dX3_sum_19 rfl rfl ?_
        refine go_bipush (pc := 20) (v := 45) dX3_sum_20 (by decide) ?_
        refine go_callVI (pc := 22) (ci := 3) (ct_X3_isSign x0 45 t_x0) lk_X3_365 rfl rfl rfl (by decide) t_x0 ⟨by omega, by omega⟩ (Nat.le_of_ble_eq_true rfl) dX3_sum_22 rfl fun v6 u7 => ?_
        refine go_if_eq (pc := 25) (tgt := 62) dX3_sum_25 (by decide) (fun h4 => ?_) (fun h4 => ?_)
        · refine go_iconst (pc := 62) (v := 1) dX3_sum_62 (by decide) ?_
          exact go_zreturn (pc := 63) rfl dX3_sum_63
        · exact go_weak (A' := [(0, .ref x0), (1, .int x1)]) (B' := []) ⟨rfl, rfl, trivial⟩ rfl (fun q h => by cases h) (hj1 u7 trivial)
      · exact go_weak (A' := [(0, .ref x0), (1, .int x1)]) (B' := []) ⟨rfl, rfl, trivial⟩ rfl (fun q h => by cases h) (hj1 u2 trivial)
end
def b_X3_sum (rc : Nat → Int32 → zM → Option (Int32 × zM)) (self : Nat) (p0 : Int32) (u : zM) : Option (Int32 × zM) := bd (rc self p0 u) fun v1 u1 => if v1 = 0 then (gb 0 (some (0, u1))) else (f_X3_sum_L10 rc self p0 zFu u1)
set_option maxHeartbeats 4000000 in
theorem cb_X3_sum (rc : Nat → Int32 → zM → Option (Int32 × zM)) {FRm LOm Frc Lrc : Nat} (hrc : ∀ (self : Nat) (p0 : Int32), kd self = 3 → zMet yX3_product cX3_product 3 (some .boolean) Frc Lrc rvI (obT) [.ref self, .int p0] (rc self p0)) (hFrc : Frc ≤ FRm) (hLrc : Lrc ≤ LOm) (self : Nat) (p0 : Int32) (t_self : kd self = 3) : zMet yX3_sum cX3_sum 3 (some .boolean) (FRm + 4) (LOm + 60) rvI (obT) [.ref self, .int p0] (b_X3_sum rc self p0) := by
  refine zMet_of (A := [(0, .ref self), (1, .int p0)]) (B := []) (ini := false) RX3 rfl (by decide +kernel) (fun h => by cases h) (by simp [lg_sl, Value.category]) (by simp [lv_args, Value.category]) rfl (by simp [lv_args, Value.category]) fun u => ?_
  unfold b_X3_sum
  refine go_aload_n (pc := 0) (j := 0) (i := 0) dX3_sum_0 rfl rfl ?_
  refine go_iload_n (pc := 1) (j := 1) (i := 1) dX3_sum_1 rfl rfl ?_
  refine go_callVI (pc := 2) (ci := 3) (hrc self p0 t_self) lk_X3_389 rfl rfl rfl (by decide) t_self ⟨by omega, by omega⟩ (Nat.le_of_ble_eq_true rfl) dX3_sum_2 rfl fun v1 u1 => ?_
  refine go_if_ne (pc := 5) (tgt := 10) dX3_sum_5 (by decide) (fun h1 => ?_) (fun h1 => ?_)
  · refine go_iconst (pc := 8) (v := 0) dX3_sum_8 (by decide) ?_
    exact go_zreturn (pc := 9) rfl dX3_sum_9
  · exact go_weak (A' := [(0, .ref self), (1, .int p0)]) (B' := []) ⟨rfl, rfl, trivial⟩ rfl (fun q h => by cases h) (g_X3_sum_L10 rc self p0 hrc hFrc hLrc t_self zFu u1)

def f_X3_sum : Nat → Nat → Int32 → zM → Option (Int32 × zM)
  | 0 => fun _ _ _ => none
  | d + 1 => b_X3_sum (b_X3_product (b_X3_factor (f_X3_sum d)))
theorem ct_X3_sum : ∀ (d : Nat) (self : Nat) (p0 : Int32), kd self = 3 → zMet yX3_sum cX3_sum 3 (some .boolean) (13 * d) (227 * d) rvI (obT) [.ref self, .int p0] (f_X3_sum d self p0) := by
  intro d
  induction d with
  | zero => intro self p0 t_self u b u' h; cases h
  | succ d ih =>
    intro self p0 t_self
    rw [show 13 * (d + 1) = 13 * d + 5 + 4 + 4 by omega, show 227 * (d + 1) = 227 * d + 107 + 60 + 60 by omega]
    exact cb_X3_sum _ (fun s q h => cb_X3_product _ (fun s q h => cb_X3_factor _ ih (Nat.le_refl _) (Nat.le_refl _) s q h) (Nat.le_refl _) (Nat.le_refl _) s q h) (Nat.le_refl _) (Nat.le_refl _) self p0 t_self
def f_X3_each_L10 (rc : Nat → Int32 → zM → Option (Int32 × zM)) (x0 : Nat) (x1 : Int32) : Nat → zM → Option (Int32 × zM)
  | 0, _ => none
  | n + 1, u => bd (f_X3_isWord x0 (nm 27 25) u) fun v2 u2 => if v2 = 0 then (gb 1 (some (1, u2))) else (bd (f_X3_goesOn x0 u2) fun v3 u3 => bd (rc x0 x1 u3) fun v4 u4 => if v4 = 0 then (gb 0 (some (0, u4))) else (bd (f_X3_puts x0 38 0 u4) fun v5 u5 => f_X3_each_L10 rc x0 x1 n u5))
section
variable {c0 s0 : Nat} {tbv : List ExceptionTableEntry}
set_option maxHeartbeats 4000000 in
theorem g_X3_each_L10 (rc : Nat → Int32 → zM → Option (Int32 × zM)) (x0 : Nat) (x1 : Int32) {FRm LOm Frc Lrc : Nat} (hrc : ∀ (self : Nat) (p0 : Int32), kd self = 3 → zMet yX3_test cX3_test 3 (some .boolean) Frc Lrc rvI (obT) [.ref self, .int p0] (rc self p0)) (hFrc : Frc ≤ FRm) (hLrc : Lrc ≤ LOm) (t_x0 : kd x0 = 3) : ∀ (n : Nat) (u : zM), Go RX3 cX3_each 2 (some .boolean) false (FRm + 5) (LOm + 107) [] (obT) (zQ rvI) c0 s0 10 [(0, .ref x0), (1, .int x1)] [] [] u (f_X3_each_L10 rc x0 x1 n u) := by
  intro n
  induction n with
  | zero => intros; exact go_none
  | succ n ih =>
    intro u
    unfold f_X3_each_L10
    refine go_aload_n (pc := 10) (j := 0) (i := 0) dX3_each_10 rfl rfl ?_
    refine go_ldcwS (pc := 11) (k := 25) dX3_each_11 rfl ?_
    refine go_callVI (pc := 14) (ci := 3) (ct_X3_isWord x0 (nm 27 25) t_x0 (by decide)) lk_X3_382 rfl rfl rfl (by decide) t_x0 ⟨by omega, by omega⟩ (Nat.le_of_ble_eq_true rfl) dX3_each_14 rfl fun v2 u2 => ?_
    refine go_if_eq (pc := 17) (tgt := 45) dX3_each_17 (by decide) (fun h2 => ?_) (fun h2 => ?_)
    · refine go_iconst (pc := 45) (v := 1) dX3_each_45 (by decide) ?_
      exact go_zreturn (pc := 46) rfl dX3_each_46
    · refine go_aload_n (pc := 20) (j := 0) (i := 0) dX3_each_20 rfl rfl ?_
      refine go_callVV (pc := 21) (ci := 3) (ct_X3_goesOn x0 t_x0) lk_X3_351 rfl rfl rfl (by decide) t_x0 ⟨by omega, by omega⟩ (Nat.le_of_ble_eq_true rfl) dX3_each_21 rfl fun v3 u3 => ?_
      refine go_aload_n (pc := 24) (j := 0) (i := 0) dX3_each_24 rfl rfl ?_
      refine go_iload_n (pc := 25) (j := 1) (i := 1) dX3_each_25 rfl rfl ?_
      refine go_callVI (pc := 26) (ci := 3) (hrc x0 x1 t_x0) lk_X3_394 rfl rfl rfl (by decide) t_x0 ⟨by omega, by omega⟩ (Nat.le_of_ble_eq_true rfl) dX3_each_26 rfl fun v4 u4 => ?_
      refine go_if_ne (pc := 29) (tgt := 34) dX3_each_29 (by decide) (fun h3 => ?_) (fun h3 => ?_)
      · refine go_iconst (pc := 32) (v := 0) dX3_each_32 (by decide) ?_
        exact go_zreturn (pc := 33) rfl dX3_each_33
      · refine go_aload_n (pc := 34) (j := 0) (i := 0) dX3_each_34 rfl rfl ?_
        refine go_bipush (pc := 35) (v := 38) dX3_each_35 (by decide) ?_
        refine go_iconst (pc := 37) (v := 0) dX3_each_37 (by decide) ?_
        refine go_callVI (pc := 38) (ci := 3) (ct_X3_puts x0 38 0 t_x0) lk_X3_378 rfl rfl rfl (by decide) t_x0 ⟨by omega, by omega⟩ (Nat.le_of_ble_eq_true rfl) dX3_each_38 rfl fun v5 u5 => ?_
        refine go_popI (pc := 41) dX3_each_41 ?_
        refine go_goto (pc := 42) (tgt := 10) dX3_each_42 (by decide) ?_
        exact go_weak (A' := [(0, .ref x0), (1, .int x1)]) (B' := []) ⟨rfl, rfl, trivial⟩ rfl (fun q h => by cases h) (ih u5)
end
def b_X3_each (rc : Nat → Int32 → zM → Option (Int32 × zM)) (self : Nat) (p0 : Int32) (u : zM) : Option (Int32 × zM) := bd (rc self p0 u) fun v1 u1 => if v1 = 0 then (gb 0 (some (0, u1))) else (f_X3_each_L10 rc self p0 zFu u1)
set_option maxHeartbeats 4000000 in
theorem cb_X3_each (rc : Nat → Int32 → zM → Option (Int32 × zM)) {FRm LOm Frc Lrc : Nat} (hrc : ∀ (self : Nat) (p0 : Int32), kd self = 3 → zMet yX3_test cX3_test 3 (some .boolean) Frc Lrc rvI (obT) [.ref self, .int p0] (rc self p0)) (hFrc : Frc ≤ FRm) (hLrc : Lrc ≤ LOm) (self : Nat) (p0 : Int32) (t_self : kd self = 3) : zMet yX3_each cX3_each 2 (some .boolean) (FRm + 5) (LOm + 107) rvI (obT) [.ref self, .int p0] (b_X3_each rc self p0) := by
  refine zMet_of (A := [(0, .ref self), (1, .int p0)]) (B := []) (ini := false) RX3 rfl (by decide +kernel) (fun h => by cases h) (by simp [lg_sl, Value.category]) (by simp [lv_args, Value.category]) rfl (by simp [lv_args, Value.category]) fun u => ?_
  unfold b_X3_each
  refine go_aload_n (pc := 0) (j := 0) (i := 0) dX3_each_0 rfl rfl ?_
  refine go_iload_n (pc := 1) (j := 1) (i := 1) dX3_each_1 rfl rfl ?_
  refine go_callVI (pc := 2) (ci := 3) (hrc self p0 t_self) lk_X3_394 rfl rfl rfl (by decide) t_self ⟨by omega, by omega⟩ (Nat.le_of_ble_eq_true rfl) dX3_each_2 rfl fun v1 u1 => ?_
  refine go_if_ne (pc := 5) (tgt := 10) dX3_each_5 (by decide) (fun h1 => ?_) (fun h1 => ?_)
  · refine go_iconst (pc := 8) (v := 0) dX3_each_8 (by decide) ?_
    exact go_zreturn (pc := 9) rfl dX3_each_9
  · exact go_weak (A' := [(0, .ref self), (1, .int p0)]) (B' := []) ⟨rfl, rfl, trivial⟩ rfl (fun q h => by cases h) (g_X3_each_L10 rc self p0 hrc hFrc hLrc t_self zFu u1)

def f_X3_either_L10 (rc : Nat → Int32 → zM → Option (Int32 × zM)) (x0 : Nat) (x1 : Int32) : Nat → zM → Option (Int32 × zM)
  | 0, _ => none
  | n + 1, u => bd (f_X3_isWord x0 (nm 27 26) u) fun v2 u2 => if v2 = 0 then (gb 1 (some (1, u2))) else (bd (f_X3_goesOn x0 u2) fun v3 u3 => bd (rc x0 x1 u3) fun v4 u4 => if v4 = 0 then (gb 0 (some (0, u4))) else (bd (f_X3_puts x0 124 0 u4) fun v5 u5 => f_X3_either_L10 rc x0 x1 n u5))
section
variable {c0 s0 : Nat} {tbv : List ExceptionTableEntry}
set_option maxHeartbeats 4000000 in
theorem g_X3_either_L10 (rc : Nat → Int32 → zM → Option (Int32 × zM)) (x0 : Nat) (x1 : Int32) {FRm LOm Frc Lrc : Nat} (hrc : ∀ (self : Nat) (p0 : Int32), kd self = 3 → zMet yX3_each cX3_each 2 (some .boolean) Frc Lrc rvI (obT) [.ref self, .int p0] (rc self p0)) (hFrc : Frc ≤ FRm) (hLrc : Lrc ≤ LOm) (t_x0 : kd x0 = 3) : ∀ (n : Nat) (u : zM), Go RX3 cX3_either 2 (some .boolean) false (FRm + 5) (LOm + 107) [] (obT) (zQ rvI) c0 s0 10 [(0, .ref x0), (1, .int x1)] [] [] u (f_X3_either_L10 rc x0 x1 n u) := by
  intro n
  induction n with
  | zero => intros; exact go_none
  | succ n ih =>
    intro u
    unfold f_X3_either_L10
    refine go_aload_n (pc := 10) (j := 0) (i := 0) dX3_either_10 rfl rfl ?_
    refine go_ldcwS (pc := 11) (k := 26) dX3_either_11 rfl ?_
    refine go_callVI (pc := 14) (ci := 3) (ct_X3_isWord x0 (nm 27 26) t_x0 (by decide)) lk_X3_382 rfl rfl rfl (by decide) t_x0 ⟨by omega, by omega⟩ (Nat.le_of_ble_eq_true rfl) dX3_either_14 rfl fun v2 u2 => ?_
    refine go_if_eq (pc := 17) (tgt := 45) dX3_either_17 (by decide) (fun h2 => ?_) (fun h2 => ?_)
    · refine go_iconst (pc := 45) (v := 1) dX3_either_45 (by decide) ?_
      exact go_zreturn (pc := 46) rfl dX3_either_46
    · refine go_aload_n (pc := 20) (j := 0) (i := 0) dX3_either_20 rfl rfl ?_
      refine go_callVV (pc := 21) (ci := 3) (ct_X3_goesOn x0 t_x0) lk_X3_351 rfl rfl rfl (by decide) t_x0 ⟨by omega, by omega⟩ (Nat.le_of_ble_eq_true rfl) dX3_either_21 rfl fun v3 u3 => ?_
      refine go_aload_n (pc := 24) (j := 0) (i := 0) dX3_either_24 rfl rfl ?_
      refine go_iload_n (pc := 25) (j := 1) (i := 1) dX3_either_25 rfl rfl ?_
      refine go_callVI (pc := 26) (ci := 3) (hrc x0 x1 t_x0) lk_X3_402 rfl rfl rfl (by decide) t_x0 ⟨by omega, by omega⟩ (Nat.le_of_ble_eq_true rfl) dX3_either_26 rfl fun v4 u4 => ?_
      refine go_if_ne (pc := 29) (tgt := 34) dX3_either_29 (by decide) (fun h3 => ?_) (fun h3 => ?_)
      · refine go_iconst (pc := 32) (v := 0) dX3_either_32 (by decide) ?_
        exact go_zreturn (pc := 33) rfl dX3_either_33
      · refine go_aload_n (pc := 34) (j := 0) (i := 0) dX3_either_34 rfl rfl ?_
        refine go_bipush (pc := 35) (v := 124) dX3_either_35 (by decide) ?_
        refine go_iconst (pc := 37) (v := 0) dX3_either_37 (by decide) ?_
        refine go_callVI (pc := 38) (ci := 3) (ct_X3_puts x0 124 0 t_x0) lk_X3_378 rfl rfl rfl (by decide) t_x0 ⟨by omega, by omega⟩ (Nat.le_of_ble_eq_true rfl) dX3_either_38 rfl fun v5 u5 => ?_
        refine go_popI (pc := 41) dX3_either_41 ?_
        refine go_goto (pc := 42) (tgt := 10) dX3_either_42 (by decide) ?_
        exact go_weak (A' := [(0, .ref x0), (1, .int x1)]) (B' := []) ⟨rfl, rfl, trivial⟩ rfl (fun q h => by cases h) (ih u5)
end
def b_X3_either (rc : Nat → Int32 → zM → Option (Int32 × zM)) (self : Nat) (p0 : Int32) (u : zM) : Option (Int32 × zM) := bd (rc self p0 u) fun v1 u1 => if v1 = 0 then (gb 0 (some (0, u1))) else (f_X3_either_L10 rc self p0 zFu u1)
set_option maxHeartbeats 4000000 in
theorem cb_X3_either (rc : Nat → Int32 → zM → Option (Int32 × zM)) {FRm LOm Frc Lrc : Nat} (hrc : ∀ (self : Nat) (p0 : Int32), kd self = 3 → zMet yX3_each cX3_each 2 (some .boolean) Frc Lrc rvI (obT) [.ref self, .int p0] (rc self p0)) (hFrc : Frc ≤ FRm) (hLrc : Lrc ≤ LOm) (self : Nat) (p0 : Int32) (t_self : kd self = 3) : zMet yX3_either cX3_either 2 (some .boolean) (FRm + 5) (LOm + 107) rvI (obT) [.ref self, .int p0] (b_X3_either rc self p0) := by
  refine zMet_of (A := [(0, .ref self), (1, .int p0)]) (B := []) (ini := false) RX3 rfl (by decide +kernel) (fun h => by cases h) (by simp [lg_sl, Value.category]) (by simp [lv_args, Value.category]) rfl (by simp [lv_args, Value.category]) fun u => ?_
  unfold b_X3_either
  refine go_aload_n (pc := 0) (j := 0) (i := 0) dX3_either_0 rfl rfl ?_
  refine go_iload_n (pc := 1) (j := 1) (i := 1) dX3_either_1 rfl rfl ?_
  refine go_callVI (pc := 2) (ci := 3) (hrc self p0 t_self) lk_X3_402 rfl rfl rfl (by decide) t_self ⟨by omega, by omega⟩ (Nat.le_of_ble_eq_true rfl) dX3_either_2 rfl fun v1 u1 => ?_
  refine go_if_ne (pc := 5) (tgt := 10) dX3_either_5 (by decide) (fun h1 => ?_) (fun h1 => ?_)
  · refine go_iconst (pc := 8) (v := 0) dX3_either_8 (by decide) ?_
    exact go_zreturn (pc := 9) rfl dX3_either_9
  · exact go_weak (A' := [(0, .ref self), (1, .int p0)]) (B' := []) ⟨rfl, rfl, trivial⟩ rfl (fun q h => by cases h) (g_X3_either_L10 rc self p0 hrc hFrc hLrc t_self zFu u1)

def b_X3_test (rc : Nat → Int32 → zM → Option (Int32 × zM)) (rd : Nat → Int32 → zM → Option (Int32 × zM)) (self : Nat) (p0 : Int32) (u : zM) : Option (Int32 × zM) := bd (f_X3_isWord self (nm 27 24) u) fun v1 u1 => if v1 = 0 then (bd (f_X3_isSign self 91 u1) fun v2 u2 => if v2 = 0 then (bd (f_X3_sum 10 self p0 u2) fun v3 u3 => if v3 = 0 then (gb 0 (some (0, u3))) else (bd (f_X3_isSign self 60 u3) fun v4 u4 => lt (fun (u5 : zM) => lt (mR u5 self 40) fun r1 => oB r1 fun n1 => ix (mI u5 self 42) (mN u5 n1) (bd (f_X3_goesOn self u5) fun v5 u6 => bd (f_X3_sum 10 self p0 u6) fun v6 u7 => if v6 = 0 then (gb 0 (some (0, u7))) else (bd (f_X3_puts self (mI u5 n1 (xN (mI u5 self 42))) 0 u7) fun v7 u8 => if v7 = 0 then (gb 0 (some (0, u8))) else (gb 1 (some (1, u8)))))) fun j1 => if v4 = 0 then (bd (f_X3_isSign self 62 u4) fun v8 u9 => if v8 = 0 then (bd (f_X3_isSign self 61 u9) fun v9 u10 => if v9 = 0 then (bd (f_X3_fails self u10) fun v10 u11 => gb v10 (some (v10, u11))) else (j1 u10)) else (j1 u9)) else (j1 u4))) else (lt (fun (z1 : Int32) (u12 : zM) => bd (f_X3_passes self z1 u12) fun v11 u13 => if v11 = 0 then (gb 0 (some (0, u13))) else (bd (rd self (p0 + 1) u13) fun v12 u14 => if v12 = 0 then (gb 0 (some (0, u14))) else (bd (f_X3_isSign self 93 u14) fun v13 u15 => bd (f_X3_passes self v13 u15) fun v14 u16 => if v14 = 0 then (gb 0 (some (0, u16))) else (gb 1 (some (1, u16)))))) fun j2 => if 8 ≤ p0 then (j2 0 u2) else (j2 1 u2))) else (lt (fun (z2 : Int32) (u17 : zM) => bd (f_X3_passes self z2 u17) fun v15 u18 => if v15 = 0 then (gb 0 (some (0, u18))) else (bd (rc self (p0 + 1) u18) fun v16 u19 => if v16 = 0 then (gb 0 (some (0, u19))) else (bd (f_X3_puts self 33 0 u19) fun v17 u20 => if v17 = 0 then (gb 0 (some (0, u20))) else (gb 1 (some (1, u20)))))) fun j3 => if 8 ≤ p0 then (j3 0 u1) else (j3 1 u1))
set_option maxHeartbeats 4000000 in
theorem cb_X3_test (rc : Nat → Int32 → zM → Option (Int32 × zM)) (rd : Nat → Int32 → zM → Option (Int32 × zM)) {FRm LOm Frc Lrc Frd Lrd : Nat} (hrc : ∀ (self : Nat) (p0 : Int32), kd self = 3 → zMet yX3_test cX3_test 3 (some .boolean) Frc Lrc rvI (obT) [.ref self, .int p0] (rc self p0)) (hFrc : Frc ≤ FRm) (hLrc : Lrc ≤ LOm) (hrd : ∀ (self : Nat) (p0 : Int32), kd self = 3 → zMet yX3_either cX3_either 2 (some .boolean) Frd Lrd rvI (obT) [.ref self, .int p0] (rd self p0)) (hFrd : Frd ≤ FRm) (hLrd : Lrd ≤ LOm) (self : Nat) (p0 : Int32) (t_self : kd self = 3) : zMet yX3_test cX3_test 3 (some .boolean) (FRm + 131) (LOm + 2292) rvI (obT) [.ref self, .int p0] (b_X3_test rc rd self p0) := by
  refine zMet_of (A := [(0, .ref self), (1, .int p0)]) (B := []) (ini := false) RX3 rfl (by decide +kernel) (fun h => by cases h) (by simp [lg_sl, Value.category]) (by simp [lv_args, Value.category]) rfl (by simp [lv_args, Value.category]) fun u => ?_
  unfold b_X3_test
  refine go_aload_n (pc := 0) (j := 0) (i := 0) dX3_test_0 rfl rfl ?_
  refine go_ldcwS (pc := 1) (k := 24) dX3_test_1 rfl ?_
  refine go_callVI (pc := 4) (ci := 3) (ct_X3_isWord self (nm 27 24) t_self (by decide)) lk_X3_382 rfl rfl rfl (by decide) t_self ⟨by omega, by omega⟩ (Nat.le_of_ble_eq_true rfl) dX3_test_4 rfl fun v1 u1 => ?_
  refine go_if_eq (pc := 7) (tgt := 54) dX3_test_7 (by decide) (fun h1 => ?_) (fun h1 => ?_)
  · refine go_aload_n (pc := 54) (j := 0) (i := 0) dX3_test_54 rfl rfl ?_
    refine go_bipush (pc := 55) (v := 91) dX3_test_55 (by decide) ?_
    refine go_callVI (pc := 57) (ci := 3) (ct_X3_isSign self 91 t_self) lk_X3_365 rfl rfl rfl (by decide) t_self ⟨by omega, by omega⟩ (Nat.le_of_ble_eq_true rfl) dX3_test_57 rfl fun v2 u2 => ?_
    refine go_if_eq (pc := 60) (tgt := 110) dX3_test_60 (by decide) (fun h2 => ?_) (fun h2 => ?_)
    · refine go_aload_n (pc := 110) (j := 0) (i := 0) dX3_test_110 rfl rfl ?_
      refine go_iload_n (pc := 111) (j := 1) (i := 1) dX3_test_111 rfl rfl ?_
      refine go_callVI (pc := 112) (ci := 3) (ct_X3_sum 10 self p0 t_self) lk_X3_372 rfl rfl rfl (by decide) t_self ⟨by omega, by omega⟩ (Nat.le_of_ble_eq_true rfl) dX3_test_112 rfl fun v3 u3 => ?_
      refine go_if_ne (pc := 115) (tgt := 120) dX3_test_115 (by decide) (fun h3 => ?_) (fun h3 => ?_)
      · refine go_iconst (pc := 118) (v := 0) dX3_test_118 (by decide) ?_
        exact go_zreturn (pc := 119) rfl dX3_test_119
      · refine go_aload_n (pc := 120) (j := 0) (i := 0) dX3_test_120 rfl rfl ?_
        refine go_bipush (pc := 121) (v := 60) dX3_test_121 (by decide) ?_
        refine go_callVI (pc := 123) (ci := 3) (ct_X3_isSign self 60 t_self) lk_X3_365 rfl rfl rfl (by decide) t_self ⟨by omega, by omega⟩ (Nat.le_of_ble_eq_true rfl) dX3_test_123 rfl fun v4 u4 => ?_
        refine go_join0 (pcx := 152) ([(0, .ref self), (1, .int p0)]) ([]) ([]) (True) (fun u5 _ => ?_) (fun j1 hj1 => ?_)
        · refine go_aload_n (pc := 152) (j := 0) (i := 0) dX3_test_152 rfl rfl ?_
          refine go_getR (pc := 153) (n := self) (ci := 3) (k := 40) (t := 14) fa_X3_121_3 t_self rfl dX3_test_153 fun r1 t_r1 => ?_
          refine go_aload_n (pc := 156) (j := 0) (i := 0) dX3_test_156 rfl rfl ?_
          refine go_getI (pc := 157) (n := self) (ci := 3) (k := 42) fa_X3_321_3 t_self rfl dX3_test_157 ?_
          refine go_oB fun n1 e_n1 => ?_
          have t_n1 := t_r1 n1 e_n1
          subst e_n1
          refine go_bald (pc := 160) t_n1 dX3_test_160 ?_
          refine go_istore_n (pc := 161) (j := 2) (i := 2) (A' := [(0, .ref self), (1, .int p0), (2, .int (mI u5 n1 (xN (mI u5 self 42))))]) rfl (by decide) rfl rfl rfl dX3_test_161 ?_
          refine go_aload_n (pc := 162) (j := 0) (i := 0) dX3_test_162 rfl rfl ?_
          refine go_callVV (pc := 163) (ci := 3) (ct_X3_goesOn self t_self) lk_X3_351 rfl rfl rfl (by decide) t_self ⟨by omega, by omega⟩ (Nat.le_of_ble_eq_true rfl) dX3_test_163 rfl fun v5 u6 => ?_
          refine go_aload_n (pc := 166) (j := 0) (i := 0) dX3_test_166 rfl rfl ?_
          refine go_iload_n (pc := 167) (j := 1) (i := 1) dX3_test_167 rfl rfl ?_
          refine go_callVI (pc := 168) (ci := 3) (ct_X3_sum 10 self p0 t_self) lk_X3_372 rfl rfl rfl (by decide) t_self ⟨by omega, by omega⟩ (Nat.le_of_ble_eq_true rfl) dX3_test_168 rfl fun v6 u7 => ?_
          refine go_if_eq (pc := 171) (tgt := 187) dX3_test_171 (by decide) (fun h4 => ?_) (fun h4 => ?_)
          · refine go_iconst (pc := 187) (v := 0) dX3_test_187 (by decide) ?_
            exact go_zreturn (pc := 188) rfl dX3_test_188
          · refine go_aload_n (pc := 174) (j := 0) (i := 0) dX3_test_174 rfl rfl ?_
            refine go_iload_n (pc := 175) (j := 2) (i := 2) dX3_test_175 rfl rfl ?_
            refine go_iconst (pc := 176) (v := 0) dX3_test_176 (by decide) ?_
            refine go_callVI (pc := 177) (ci := 3) (ct_X3_puts self (mI u5 n1 (xN (mI u5 self 42))) 0 t_self) lk_X3_378 rfl rfl rfl (by decide) t_self ⟨by omega, by omega⟩ (Nat.le_of_ble_eq_true rfl) dX3_test_177 rfl fun v7 u8 => ?_
            refine go_if_eq (pc := 180) (tgt := 187) dX3_test_180 (by decide) (fun h5 => ?_) (fun h5 => ?_)
            · refine go_iconst (pc := 187) (v := 0) dX3_test_187 (by decide) ?_
              exact go_zreturn (pc := 188) rfl dX3_test_188
            · refine go_iconst (pc := 183) (v := 1) dX3_test_183 (by decide) ?_
              refine go_goto (pc := 184) (tgt := 188) dX3_test_184 (by decide) ?_
              exact go_zreturn (pc := 188) rfl dX3_test_188
        · refine go_if_ne (pc := 126) (tgt := 152) dX3_test_126 (by decide) (fun h6 => ?_) (fun h6 => ?_)
          · refine go_aload_n (pc := 129) (j := 0) (i := 0) dX3_test_129 rfl rfl ?_
            refine go_bipush (pc := 130) (v := 62) dX3_test_130 (by decide) ?_
            refine go_callVI (pc := 132) (ci := 3) (ct_X3_isSign self 62 t_self) lk_X3_365 rfl rfl rfl (by decide) t_self ⟨by omega, by omega⟩ (Nat.le_of_ble_eq_true rfl) dX3_test_132 rfl fun v8 u9 => ?_
            refine go_if_ne (pc := 135) (tgt := 152) dX3_test_135 (by decide) (fun h7 => ?_) (fun h7 => ?_)
            · refine go_aload_n (pc := 138) (j := 0) (i := 0) dX3_test_138 rfl rfl ?_
              refine go_bipush (pc := 139) (v := 61) dX3_test_139 (by decide) ?_
              refine go_callVI (pc := 141) (ci := 3) (ct_X3_isSign self 61 t_self) lk_X3_365 rfl rfl rfl (by decide) t_self ⟨by omega, by omega⟩ (Nat.le_of_ble_eq_true rfl) dX3_test_141 rfl fun v9 u10 => ?_
              refine go_if_ne (pc := 144) (tgt := 152) dX3_test_144 (by decide) (fun h8 => ?_) (fun h8 => ?_)
              · refine go_aload_n (pc := 147) (j := 0) (i := 0) dX3_test_147 rfl rfl ?_
                refine go_callVI (pc := 148) (ci := 3) (ct_X3_fails self t_self) lk_X3_347 rfl rfl rfl (by decide) t_self ⟨by omega, by omega⟩ (Nat.le_of_ble_eq_true rfl) dX3_test_148 rfl fun v10 u11 => ?_
                exact go_zreturn (pc := 151) rfl dX3_test_151
              · exact go_weak (A' := [(0, .ref self), (1, .int p0)]) (B' := []) ⟨rfl, rfl, trivial⟩ rfl (fun q h => by cases h) (hj1 u10 trivial)
            · exact go_weak (A' := [(0, .ref self), (1, .int p0)]) (B' := []) ⟨rfl, rfl, trivial⟩ rfl (fun q h => by cases h) (hj1 u9 trivial)
          · exact go_weak (A' := [(0, .ref self), (1, .int p0)]) (B' := []) ⟨rfl, rfl, trivial⟩ rfl (fun q h => by cases h) (hj1 u4 trivial)
    · refine go_aload_n (pc := 63) (j := 0) (i := 0) dX3_test_63 rfl rfl ?_
      refine go_iload_n (pc := 64) (j := 1) (i := 1) dX3_test_64 rfl rfl ?_
      refine go_bipush (pc := 65) (v := 8) dX3_test_65 (by decide) ?_
      refine go_join1 (pcx := 75) (α1 := Int32) (fun z1 => [(0, .ref self), (1, .int p0)]) (fun z1 => []) (fun z1 => [.int z1, .ref self]) (fun z1 => True) (fun z1 u12 _ => ?_) (fun j2 hj2 => ?_)
      · refine go_callVI (pc := 75) (ci := 3) (ct_X3_passes self z1 t_self) lk_X3_368 rfl rfl rfl (by decide) t_self ⟨by omega, by omega⟩ (Nat.le_of_ble_eq_true rfl) dX3_test_75 rfl fun v11 u13 => ?_
        refine go_if_eq (pc := 78) (tgt := 108) dX3_test_78 (by decide) (fun h9 => ?_) (fun h9 => ?_)
        · refine go_iconst (pc := 108) (v := 0) dX3_test_108 (by decide) ?_
          exact go_zreturn (pc := 109) rfl dX3_test_109
        · refine go_aload_n (pc := 81) (j := 0) (i := 0) dX3_test_81 rfl rfl ?_
          refine go_iload_n (pc := 82) (j := 1) (i := 1) dX3_test_82 rfl rfl ?_
          refine go_iconst (pc := 83) (v := 1) dX3_test_83 (by decide) ?_
          refine go_iadd (pc := 84) dX3_test_84 ?_
          refine go_callVI (pc := 85) (ci := 3) (hrd self (p0 + 1) t_self) lk_X3_397 rfl rfl rfl (by decide) t_self ⟨by omega, by omega⟩ (Nat.le_of_ble_eq_true rfl) dX3_test_85 rfl fun v12 u14 => ?_
          refine go_if_eq (pc := 88) (tgt := 108) dX3_test_88 (by decide) (fun h10 => ?_) (fun h10 => ?_)
          · refine go_iconst (pc := 108) (v := 0) dX3_test_108 (by decide) ?_
            exact go_zreturn (pc := 109) rfl dX3_test_109
          · refine go_aload_n (pc := 91) (j := 0) (i := 0) dX3_test_91 rfl rfl ?_
            refine go_aload_n (pc := 92) (j := 0) (i := 0) dX3_test_92 rfl rfl ?_
            refine go_bipush (pc := 93) (v := 93) dX3_test_93 (by decide) ?_
            refine go_callVI (pc := 95) (ci := 3) (ct_X3_isSign self 93 t_self) lk_X3_365 rfl rfl rfl (by decide) t_self ⟨by omega, by omega⟩ (Nat.le_of_ble_eq_true rfl) dX3_test_95 rfl fun v13 u15 => ?_
            refine go_callVI (pc := 98) (ci := 3) (ct_X3_passes self v13 t_self) lk_X3_368 rfl rfl rfl (by decide) t_self ⟨by omega, by omega⟩ (Nat.le_of_ble_eq_true rfl) dX3_test_98 rfl fun v14 u16 => ?_
            refine go_if_eq (pc := 101) (tgt := 108) dX3_test_101 (by decide) (fun h11 => ?_) (fun h11 => ?_)
            · refine go_iconst (pc := 108) (v := 0) dX3_test_108 (by decide) ?_
              exact go_zreturn (pc := 109) rfl dX3_test_109
            · refine go_iconst (pc := 104) (v := 1) dX3_test_104 (by decide) ?_
              refine go_goto (pc := 105) (tgt := 109) dX3_test_105 (by decide) ?_
              exact go_zreturn (pc := 109) rfl dX3_test_109
      · refine go_icmp_ge (pc := 67) (tgt := 74) dX3_test_67 (by decide) (fun h12 => ?_) (fun h12 => ?_)
        · refine go_iconst (pc := 74) (v := 0) dX3_test_74 (by decide) ?_
          exact go_weak (A' := [(0, .ref self), (1, .int p0)]) (B' := []) ⟨rfl, rfl, trivial⟩ rfl (fun q h => by cases h) (hj2 0 u2 trivial)
        · refine go_iconst (pc := 70) (v := 1) dX3_test_70 (by decide) ?_
          refine go_goto (pc := 71) (tgt := 75) dX3_test_71 (by decide) ?_
          exact go_weak (A' := [(0, .ref self), (1, .int p0)]) (B' := []) ⟨rfl, rfl, trivial⟩ rfl (fun q h => by cases h) (hj2 1 u2 trivial)
  · refine go_aload_n (pc := 10) (j := 0) (i := 0) dX3_test_10 rfl rfl ?_
    refine go_iload_n (pc := 11) (j := 1) (i := 1) dX3_test_11 rfl rfl ?_
    refine go_bipush (pc := 12) (v := 8) dX3_test_12 (by decide) ?_
    refine go_join1 (pcx := 22) (α1 := Int32) (fun z2 => [(0, .ref self), (1, .int p0)]) (fun z2 => []) (fun z2 => [.int z2, .ref self]) (fun z2 => True) (fun z2 u17 _ => ?_) (fun j3 hj3 => ?_)
    · refine go_callVI (pc := 22) (ci := 3) (ct_X3_passes self z2 t_self) lk_X3_368 rfl rfl rfl (by decide) t_self ⟨by omega, by omega⟩ (Nat.le_of_ble_eq_true rfl) dX3_test_22 rfl fun v15 u18 => ?_
      refine go_if_eq (pc := 25) (tgt := 52) dX3_test_25 (by decide) (fun h13 => ?_) (fun h13 => ?_)
      · refine go_iconst (pc := 52) (v := 0) dX3_test_52 (by decide) ?_
        exact go_zreturn (pc := 53) rfl dX3_test_53
      · refine go_aload_n (pc := 28) (j := 0) (i := 0) dX3_test_28 rfl rfl ?_
        refine go_iload_n (pc := 29) (j := 1) (i := 1) dX3_test_29 rfl rfl ?_
        refine go_iconst (pc := 30) (v := 1) dX3_test_30 (by decide) ?_
        refine go_iadd (pc := 31) dX3_test_31 ?_
        refine go_callVI (pc := 32) (ci := 3) (hrc self (p0 + 1) t_self) lk_X3_394 rfl rfl rfl (by decide) t_self ⟨by omega, by omega⟩ (Nat.le_of_ble_eq_true rfl) dX3_test_32 rfl fun v16 u19 => ?_
        refine go_if_eq (pc := 35) (tgt := 52) dX3_test_35 (by decide) (fun h14 => ?_) (fun h14 => ?_)
        · refine go_iconst (pc := 52) (v := 0) dX3_test_52 (by decide) ?_
          exact go_zreturn (pc := 53) rfl dX3_test_53
        · refine go_aload_n (pc := 38) (j := 0) (i := 0) dX3_test_38 rfl rfl ?_
          refine go_bipush (pc := 39) (v := 33) dX3_test_39 (by decide) ?_
          refine go_iconst (pc := 41) (v := 0) dX3_test_41 (by decide) ?_
          refine go_callVI (pc := 42) (ci := 3) (ct_X3_puts self 33 0 t_self) lk_X3_378 rfl rfl rfl (by decide) t_self ⟨by omega, by omega⟩ (Nat.le_of_ble_eq_true rfl) dX3_test_42 rfl fun v17 u20 => ?_
          refine go_if_eq (pc := 45) (tgt := 52) dX3_test_45 (by decide) (fun h15 => ?_) (fun h15 => ?_)
          · refine go_iconst (pc := 52) (v := 0) dX3_test_52 (by decide) ?_
            exact go_zreturn (pc := 53) rfl dX3_test_53
          · refine go_iconst (pc := 48) (v := 1) dX3_test_48 (by decide) ?_
            refine go_goto (pc := 49) (tgt := 53) dX3_test_49 (by decide) ?_
            exact go_zreturn (pc := 53) rfl dX3_test_53
    · refine go_icmp_ge (pc := 14) (tgt := 21) dX3_test_14 (by decide) (fun h16 => ?_) (fun h16 => ?_)
      · refine go_iconst (pc := 21) (v := 0) dX3_test_21 (by decide) ?_
        exact go_weak (A' := [(0, .ref self), (1, .int p0)]) (B' := []) ⟨rfl, rfl, trivial⟩ rfl (fun q h => by cases h) (hj3 0 u1 trivial)
      · refine go_iconst (pc := 17) (v := 1) dX3_test_17 (by decide) ?_
        refine go_goto (pc := 18) (tgt := 22) dX3_test_18 (by decide) ?_
        exact go_weak (A' := [(0, .ref self), (1, .int p0)]) (B' := []) ⟨rfl, rfl, trivial⟩ rfl (fun q h => by cases h) (hj3 1 u1 trivial)

def f_X3_test : Nat → Nat → Int32 → zM → Option (Int32 × zM)
  | 0 => fun _ _ _ => none
  | d + 1 => b_X3_test (f_X3_test d) (b_X3_either (b_X3_each (f_X3_test d)))
theorem ct_X3_test : ∀ (d : Nat) (self : Nat) (p0 : Int32), kd self = 3 → zMet yX3_test cX3_test 3 (some .boolean) (141 * d) (2506 * d) rvI (obT) [.ref self, .int p0] (f_X3_test d self p0) := by
  intro d
  induction d with
  | zero => intro self p0 t_self u b u' h; cases h
  | succ d ih =>
    intro self p0 t_self
    rw [show 141 * (d + 1) = 141 * d + 5 + 5 + 131 by omega, show 2506 * (d + 1) = 2506 * d + 107 + 107 + 2292 by omega]
    exact cb_X3_test _ _ ih (by omega) (by omega) (fun s q h => cb_X3_either _ (fun s q h => cb_X3_each _ ih (Nat.le_refl _) (Nat.le_refl _) s q h) (Nat.le_refl _) (Nat.le_refl _) s q h) (Nat.le_refl _) (Nat.le_refl _) self p0 t_self
def f_X3_either (self : Nat) (p0 : Int32) (u : zM) : Option (Int32 × zM) := b_X3_either (b_X3_each (f_X3_test 10)) self p0 u
theorem ct_X3_either (self : Nat) (p0 : Int32) (t_self : kd self = 3) : zMet yX3_either cX3_either 2 (some .boolean) (141 * 10 + 5 + 5) (2506 * 10 + 107 + 107) rvI (obT) [.ref self, .int p0] (f_X3_either self p0) := cb_X3_either _ (fun s q h => cb_X3_each _ (ct_X3_test 10) (Nat.le_refl _) (Nat.le_refl _) s q h) (Nat.le_refl _) (Nat.le_refl _) self p0 t_self
def f_X1_isLetter (p0 : Int32) (u : zM) : Option (Int32 × zM) := if p0 < 97 then (gb 0 (some (0, u))) else (if 122 < p0 then (gb 0 (some (0, u))) else (gb 1 (some (1, u))))
set_option maxHeartbeats 4000000 in
theorem ct_X1_isLetter (p0 : Int32) : zMet yX1_isLetter cX1_isLetter 1 (some .boolean) 1 0 rvI (obT) [.int p0] (f_X1_isLetter p0) := by
  refine zMet_of (A := [(0, .int p0)]) (B := []) (ini := false) RX1 rfl (by decide +kernel) (fun h => by cases h) (by simp [lg_sl, Value.category]) (by simp [lv_args, Value.category]) rfl (by simp [lv_args, Value.category]) fun u => ?_
  unfold f_X1_isLetter
  refine go_iload_n (pc := 0) (j := 0) (i := 0) dX1_isLetter_0 rfl rfl ?_
  refine go_bipush (pc := 1) (v := 97) dX1_isLetter_1 (by decide) ?_
  refine go_icmp_lt (pc := 3) (tgt := 16) dX1_isLetter_3 (by decide) (fun h1 => ?_) (fun h1 => ?_)
  · refine go_iconst (pc := 16) (v := 0) dX1_isLetter_16 (by decide) ?_
    exact go_zreturn (pc := 17) rfl dX1_isLetter_17
  · refine go_iload_n (pc := 6) (j := 0) (i := 0) dX1_isLetter_6 rfl rfl ?_
    refine go_bipush (pc := 7) (v := 122) dX1_isLetter_7 (by decide) ?_
    refine go_icmp_gt (pc := 9) (tgt := 16) dX1_isLetter_9 (by decide) (fun h2 => ?_) (fun h2 => ?_)
    · refine go_iconst (pc := 16) (v := 0) dX1_isLetter_16 (by decide) ?_
      exact go_zreturn (pc := 17) rfl dX1_isLetter_17
    · refine go_iconst (pc := 12) (v := 1) dX1_isLetter_12 (by decide) ?_
      refine go_goto (pc := 13) (tgt := 17) dX1_isLetter_13 (by decide) ?_
      exact go_zreturn (pc := 17) rfl dX1_isLetter_17

def f_X1_isDigit (p0 : Int32) (u : zM) : Option (Int32 × zM) := if p0 < 48 then (gb 0 (some (0, u))) else (if 57 < p0 then (gb 0 (some (0, u))) else (gb 1 (some (1, u))))
set_option maxHeartbeats 4000000 in
theorem ct_X1_isDigit (p0 : Int32) : zMet yX1_isDigit cX1_isDigit 1 (some .boolean) 1 0 rvI (obT) [.int p0] (f_X1_isDigit p0) := by
  refine zMet_of (A := [(0, .int p0)]) (B := []) (ini := false) RX1 rfl (by decide +kernel) (fun h => by cases h) (by simp [lg_sl, Value.category]) (by simp [lv_args, Value.category]) rfl (by simp [lv_args, Value.category]) fun u => ?_
  unfold f_X1_isDigit
  refine go_iload_n (pc := 0) (j := 0) (i := 0) dX1_isDigit_0 rfl rfl ?_
  refine go_bipush (pc := 1) (v := 48) dX1_isDigit_1 (by decide) ?_
  refine go_icmp_lt (pc := 3) (tgt := 16) dX1_isDigit_3 (by decide) (fun h1 => ?_) (fun h1 => ?_)
  · refine go_iconst (pc := 16) (v := 0) dX1_isDigit_16 (by decide) ?_
    exact go_zreturn (pc := 17) rfl dX1_isDigit_17
  · refine go_iload_n (pc := 6) (j := 0) (i := 0) dX1_isDigit_6 rfl rfl ?_
    refine go_bipush (pc := 7) (v := 57) dX1_isDigit_7 (by decide) ?_
    refine go_icmp_gt (pc := 9) (tgt := 16) dX1_isDigit_9 (by decide) (fun h2 => ?_) (fun h2 => ?_)
    · refine go_iconst (pc := 16) (v := 0) dX1_isDigit_16 (by decide) ?_
      exact go_zreturn (pc := 17) rfl dX1_isDigit_17
    · refine go_iconst (pc := 12) (v := 1) dX1_isDigit_12 (by decide) ?_
      refine go_goto (pc := 13) (tgt := 17) dX1_isDigit_13 (by decide) ?_
      exact go_zreturn (pc := 17) rfl dX1_isDigit_17

def f_J2_canEncode (p0 : Int32) (u : zM) : Option (Int32 × zM) := if p0 < 0 then (gb 0 (some (0, u))) else (if 255 < p0 then (gb 0 (some (0, u))) else (gb 1 (some (1, u))))
set_option maxHeartbeats 4000000 in
theorem ct_J2_canEncode (p0 : Int32) : zMet yJ2_canEncode cJ2_canEncode 1 (some .boolean) 1 0 rvI (obT) [.int p0] (f_J2_canEncode p0) := by
  refine zMet_of (A := [(0, .int p0)]) (B := []) (ini := false) RJ2 rfl (by decide +kernel) (fun h => by cases h) (by simp [lg_sl, Value.category]) (by simp [lv_args, Value.category]) rfl (by simp [lv_args, Value.category]) fun u => ?_
  unfold f_J2_canEncode
  refine go_iload_n (pc := 0) (j := 0) (i := 0) dJ2_canEncode_0 rfl rfl ?_
  refine go_if_lt (pc := 1) (tgt := 15) dJ2_canEncode_1 (by decide) (fun h1 => ?_) (fun h1 => ?_)
  · refine go_iconst (pc := 15) (v := 0) dJ2_canEncode_15 (by decide) ?_
    exact go_zreturn (pc := 16) rfl dJ2_canEncode_16
  · refine go_iload_n (pc := 4) (j := 0) (i := 0) dJ2_canEncode_4 rfl rfl ?_
    refine go_sipush (pc := 5) (v := 255) dJ2_canEncode_5 (by decide) ?_
    refine go_icmp_gt (pc := 8) (tgt := 15) dJ2_canEncode_8 (by decide) (fun h2 => ?_) (fun h2 => ?_)
    · refine go_iconst (pc := 15) (v := 0) dJ2_canEncode_15 (by decide) ?_
      exact go_zreturn (pc := 16) rfl dJ2_canEncode_16
    · refine go_iconst (pc := 11) (v := 1) dJ2_canEncode_11 (by decide) ?_
      refine go_goto (pc := 12) (tgt := 16) dJ2_canEncode_12 (by decide) ?_
      exact go_zreturn (pc := 16) rfl dJ2_canEncode_16

def f_J2_indexOfChar_L7 (x0 : Nat) (x3 : Int32) (x4 : Int32) : Nat → Int32 → zM → Option (Int32 × zM)
  | 0, _, _ => none
  | n + 1, x5, u => if x3 ≤ x5 then (some ((-1), u)) else (ix x5 (mN u x0) (if (mI u x0 (xN x5)) = x4 then (some (x5, u)) else (f_J2_indexOfChar_L7 x0 x3 x4 n (x5 + 1) u)))
section
variable {c0 s0 : Nat} {tbv : List ExceptionTableEntry}
set_option maxHeartbeats 4000000 in
theorem g_J2_indexOfChar_L7 (x0 : Nat) (x3 : Int32) (x4 : Int32) (t_x0 : kd x0 = 28) : ∀ (n : Nat) (x5 : Int32) (u : zM), Go RJ2 cJ2_indexOfChar 6 (some .int) false 1 0 [] (obT) (zQ rvI) c0 s0 7 [(0, .ref x0), (3, .int x3), (4, .int x4), (5, .int x5)] [] [] u (f_J2_indexOfChar_L7 x0 x3 x4 n x5 u) := by
  intro n
  induction n with
  | zero => intros; exact go_none
  | succ n ih =>
    intro x5 u
    unfold f_J2_indexOfChar_L7
    refine go_iload (pc := 7) (i := 5) dJ2_indexOfChar_7 rfl ?_
    refine go_iload_n (pc := 9) (j := 3) (i := 3) dJ2_indexOfChar_9 rfl rfl ?_
    refine go_icmp_ge (pc := 10) (tgt := 31) dJ2_indexOfChar_10 (by decide) (fun h1 => ?_) (fun h1 => ?_)
    · refine go_iconst (pc := 31) (v := (-1)) dJ2_indexOfChar_31 (by decide) ?_
      exact go_ireturn (pc := 32) rfl dJ2_indexOfChar_32
    · refine go_aload_n (pc := 13) (j := 0) (i := 0) dJ2_indexOfChar_13 rfl rfl ?_
      refine go_iload (pc := 14) (i := 5) dJ2_indexOfChar_14 rfl ?_
      refine go_bcld (pc := 16) t_x0 dJ2_indexOfChar_16 ?_
      refine go_iload (pc := 17) (i := 4) dJ2_indexOfChar_17 rfl ?_
      refine go_icmp_ne (pc := 19) (tgt := 25) dJ2_indexOfChar_19 (by decide) (fun h2 => ?_) (fun h2 => ?_)
      · refine go_iload (pc := 22) (i := 5) dJ2_indexOfChar_22 rfl ?_
        exact go_ireturn (pc := 24) rfl dJ2_indexOfChar_24
      · refine go_iinc (pc := 25) (i := 5) (w := 1) (A' := [(0, .ref x0), (3, .int x3), (4, .int x4), (5, .int (x5 + 1))]) rfl (by decide) (by decide) rfl rfl rfl dJ2_indexOfChar_25 ?_
        refine go_goto (pc := 28) (tgt := 7) dJ2_indexOfChar_28 (by decide) ?_
        exact go_weak (A' := [(0, .ref x0), (3, .int x3), (4, .int x4), (5, .int (x5 + 1))]) (B' := []) ⟨rfl, rfl, rfl, rfl, trivial⟩ rfl (fun q h => by cases h) (ih (x5 + 1) u)
end
def f_J2_indexOfChar (p0 : Nat) (p1 : Int32) (p2 : Int32) (p3 : Int32) (u : zM) : Option (Int32 × zM) := f_J2_indexOfChar_L7 p0 p3 ((Int32.toInt8 p1).toInt32) zFu p2 u
set_option maxHeartbeats 4000000 in
theorem ct_J2_indexOfChar (p0 : Nat) (p1 : Int32) (p2 : Int32) (p3 : Int32) (t_p0 : kd p0 = 28) : zMet yJ2_indexOfChar cJ2_indexOfChar 6 (some .int) 1 0 rvI (obT) [.ref p0, .int p1, .int p2, .int p3] (f_J2_indexOfChar p0 p1 p2 p3) := by
  refine zMet_of (A := [(0, .ref p0), (1, .int p1), (2, .int p2), (3, .int p3)]) (B := []) (ini := false) RJ2 rfl (by decide +kernel) (fun h => by cases h) (by simp [lg_sl, Value.category]) (by simp [lv_args, Value.category]) rfl (by simp [lv_args, Value.category]) fun u => ?_
  unfold f_J2_indexOfChar
  refine go_iload_n (pc := 0) (j := 1) (i := 1) dJ2_indexOfChar_0 rfl rfl ?_
  refine go_i2b (pc := 1) dJ2_indexOfChar_1 ?_
  refine go_istore (pc := 2) (i := 4) (A' := [(0, .ref p0), (1, .int p1), (2, .int p2), (3, .int p3), (4, .int ((Int32.toInt8 p1).toInt32))]) (by decide) rfl rfl rfl dJ2_indexOfChar_2 ?_
  refine go_iload_n (pc := 4) (j := 2) (i := 2) dJ2_indexOfChar_4 rfl rfl ?_
  refine go_istore (pc := 5) (i := 5) (A' := [(0, .ref p0), (1, .int p1), (2, .int p2), (3, .int p3), (4, .int ((Int32.toInt8 p1).toInt32)), (5, .int p2)]) (by decide) rfl rfl rfl dJ2_indexOfChar_5 ?_
  exact go_weak (A' := [(0, .ref p0), (3, .int p3), (4, .int ((Int32.toInt8 p1).toInt32)), (5, .int p2)]) (B' := []) ⟨rfl, rfl, rfl, rfl, trivial⟩ rfl (fun q h => by cases h) (g_J2_indexOfChar_L7 p0 p3 ((Int32.toInt8 p1).toInt32) t_p0 zFu p2 u)

