set_option maxRecDepth 100000
/-! ===== the law: its script ===== -/
def R_law : String := "WheelLandLaw"
section GL
variable {β : Type} {own : String} {cc : ByteArray} {nL : Nat} {rt : Option FieldType} {ini : Bool} {fr lo : Nat} {ob : β → zM → Prop} {Qf : zQf β} {tb : List ExceptionTableEntry} {c0 s0 pc : Nat} {A : List (Nat × Value)} {B : List (Nat × Int64)} {st : List Value} {u : zM} {o : Option (β × zM)}
theorem go_sald0 {i : Int32} (d : decode cc pc = .ok (.iaload, 1)) (g : Go own cc nL rt ini fr lo tb ob Qf c0 s0 (pc + 1) A B (.int (mI u (nm 30 0) (xN i)) :: st) u o) : Go own cc nL rt ini fr lo tb ob Qf c0 s0 pc A B (.int i :: .ref (nm 30 0) :: st) u (ix i (mN u (nm 30 0)) o) := by
  refine go_ix fun hix => ?_
  refine go_pure (pc' := pc + 1) (st := .int i :: .ref (nm 30 0) :: st) (st' := .int (mI u (nm 30 0) (xN i)) :: st) (fun hwf hA hS => okS_cons.mpr ⟨okV_int, (okS_cons.mp (okS_cons.mp hS).2).2⟩) (fun K p l e R s m args below meth c H locs ls cells slots Q hc hL hwf hS hC kk => ?_) g
  obtain ⟨scr, h1, h2, h3, h4, h5⟩ := hC.2.2.2.2.2
  have hlt : i.toNatClampNeg < mN u (nm 30 0) := Nat.not_le.mp fun q => hix (Or.inr q)
  have e9 : ad K u (nm 30 0) = K.2.2.2.2 := rfl
  show W p l e R s m args below meth c H locs cells slots Q (F0 m pc ls (.int i :: .ref (ad K u (nm 30 0)) :: st.map (cv K u)))
  rw [e9]
  exact W.iald (v := .int (mI u (nm 30 0) i.toNatClampNeg)) hc.1 hc.2.1 h1 h2 h3 (by rw [h4]; exact hix) (h5 _ hlt) rfl rfl d kk
theorem go_salen0 (d : decode cc pc = .ok (.arraylength, 1)) (g : Go own cc nL rt ini fr lo tb ob Qf c0 s0 (pc + 1) A B (.int (Int32.ofNat (mN u (nm 30 0))) :: st) u o) : Go own cc nL rt ini fr lo tb ob Qf c0 s0 pc A B (.ref (nm 30 0) :: st) u o := by
  refine go_pure (pc' := pc + 1) (st := .ref (nm 30 0) :: st) (st' := .int (Int32.ofNat (mN u (nm 30 0))) :: st) (fun hwf hA hS => okS_cons.mpr ⟨okV_int, (okS_cons.mp hS).2⟩) (fun K p l e R s m args below meth c H locs ls cells slots Q hc hL hwf hS hC kk => ?_) g
  obtain ⟨scr, h1, h2, h3, h4, h5⟩ := hC.2.2.2.2.2
  have e9 : ad K u (nm 30 0) = K.2.2.2.2 := rfl
  show W p l e R s m args below meth c H locs cells slots Q (F0 m pc ls (.ref (ad K u (nm 30 0)) :: st.map (cv K u)))
  rw [e9]
  exact W.alen (n := Int32.ofNat (mN u (nm 30 0))) hc.1 hc.2.1 h1 h2 (by rw [h4] <;> rfl) rfl rfl d kk
theorem scr_nm {n : Nat} (hwf : zWf u) (h : al u n) (hk : kd n = 30) : n = nm 30 0 := by
  rcases hwf.2.2 n h (by omega) with ⟨h1, -⟩ | h1
  · have e : kd n = nS n % 32 := by unfold kd nS; omega
    rcases h1 with h1 | h1 <;> rw [e, h1] at hk <;> cases hk
  · exact h1
theorem go_sald {i : Int32} {n : Nat} (hk : kd n = 30) (d : decode cc pc = .ok (.iaload, 1)) (g : Go own cc nL rt ini fr lo tb ob Qf c0 s0 (pc + 1) A B (.int (mI u n (xN i)) :: st) u o) : Go own cc nL rt ini fr lo tb ob Qf c0 s0 pc A B (.int i :: .ref n :: st) u (ix i (mN u n) o) := by
  intro b u' ho hwf hA hS
  have := scr_nm hwf (okV_ref.mp (okS_cons.mp (okS_cons.mp hS).2).1) hk
  subst this
  exact go_sald0 d g b u' ho hwf hA hS
theorem go_salen {n : Nat} (hk : kd n = 30) (d : decode cc pc = .ok (.arraylength, 1)) (g : Go own cc nL rt ini fr lo tb ob Qf c0 s0 (pc + 1) A B (.int (Int32.ofNat (mN u n)) :: st) u o) : Go own cc nL rt ini fr lo tb ob Qf c0 s0 pc A B (.ref n :: st) u o := by
  intro b u' ho hwf hA hS
  have := scr_nm hwf (okV_ref.mp (okS_cons.mp hS).1) hk
  subst this
  exact go_salen0 d g b u' ho hwf hA hS
end GL
theorem na_L_7 : zNA R_law 7 0 := ⟨RX0, TX0, 35, tyX0, rfl, in_X0, tyX0_ok, q118, q119, q95, rfl, by decide, (by intro j hj; rcases (show j = 0 ∨ j = 1 ∨ j = 2 ∨ j = 3 ∨ j = 4 ∨ j = 5 ∨ j = 6 ∨ j = 7 ∨ j = 8 ∨ j = 9 ∨ j = 10 ∨ j = 11 ∨ j = 12 ∨ j = 13 ∨ j = 14 ∨ j = 15 ∨ j = 16 ∨ j = 17 ∨ j = 18 ∨ j = 19 ∨ j = 20 ∨ j = 21 ∨ j = 22 ∨ j = 23 ∨ j = 24 ∨ j = 25 ∨ j = 26 ∨ j = 27 ∨ j = 28 ∨ j = 29 ∨ j = 30 ∨ j = 31 ∨ j = 32 ∨ j = 33 ∨ j = 34 by omega) with rfl | rfl | rfl | rfl | rfl | rfl | rfl | rfl | rfl | rfl | rfl | rfl | rfl | rfl | rfl | rfl | rfl | rfl | rfl | rfl | rfl | rfl | rfl | rfl | rfl | rfl | rfl | rfl | rfl | rfl | rfl | rfl | rfl | rfl | rfl <;> rfl)⟩
theorem lk_L_9 : zLI R_law 9 yX0_init cX0_init 1 0 := ⟨lw_meth q122, q95, q120, q121, rfl, by decide +kernel, by decide +kernel, by decide +kernel⟩
theorem na_L_10 : zNA R_law 10 3 := ⟨RX3, TX3, 97, tyX3, rfl, in_X3, tyX3_ok, q1215, q1216, q98, rfl, by decide, (by intro j hj; rcases (show j = 0 ∨ j = 1 ∨ j = 2 ∨ j = 3 ∨ j = 4 ∨ j = 5 ∨ j = 6 ∨ j = 7 ∨ j = 8 ∨ j = 9 ∨ j = 10 ∨ j = 11 ∨ j = 12 ∨ j = 13 ∨ j = 14 ∨ j = 15 ∨ j = 16 ∨ j = 17 ∨ j = 18 ∨ j = 19 ∨ j = 20 ∨ j = 21 ∨ j = 22 ∨ j = 23 ∨ j = 24 ∨ j = 25 ∨ j = 26 ∨ j = 27 ∨ j = 28 ∨ j = 29 ∨ j = 30 ∨ j = 31 ∨ j = 32 ∨ j = 33 ∨ j = 34 ∨ j = 35 ∨ j = 36 ∨ j = 37 ∨ j = 38 ∨ j = 39 ∨ j = 40 ∨ j = 41 ∨ j = 42 ∨ j = 43 ∨ j = 44 ∨ j = 45 ∨ j = 46 ∨ j = 47 ∨ j = 48 ∨ j = 49 ∨ j = 50 ∨ j = 51 ∨ j = 52 ∨ j = 53 ∨ j = 54 ∨ j = 55 ∨ j = 56 ∨ j = 57 ∨ j = 58 ∨ j = 59 ∨ j = 60 ∨ j = 61 ∨ j = 62 ∨ j = 63 ∨ j = 64 ∨ j = 65 ∨ j = 66 ∨ j = 67 ∨ j = 68 ∨ j = 69 ∨ j = 70 ∨ j = 71 ∨ j = 72 ∨ j = 73 ∨ j = 74 ∨ j = 75 ∨ j = 76 ∨ j = 77 ∨ j = 78 ∨ j = 79 ∨ j = 80 ∨ j = 81 ∨ j = 82 ∨ j = 83 ∨ j = 84 ∨ j = 85 ∨ j = 86 ∨ j = 87 ∨ j = 88 ∨ j = 89 ∨ j = 90 ∨ j = 91 ∨ j = 92 ∨ j = 93 ∨ j = 94 ∨ j = 95 ∨ j = 96 by omega) with rfl | rfl | rfl | rfl | rfl | rfl | rfl | rfl | rfl | rfl | rfl | rfl | rfl | rfl | rfl | rfl | rfl | rfl | rfl | rfl | rfl | rfl | rfl | rfl | rfl | rfl | rfl | rfl | rfl | rfl | rfl | rfl | rfl | rfl | rfl | rfl | rfl | rfl | rfl | rfl | rfl | rfl | rfl | rfl | rfl | rfl | rfl | rfl | rfl | rfl | rfl | rfl | rfl | rfl | rfl | rfl | rfl | rfl | rfl | rfl | rfl | rfl | rfl | rfl | rfl | rfl | rfl | rfl | rfl | rfl | rfl | rfl | rfl | rfl | rfl | rfl | rfl | rfl | rfl | rfl | rfl | rfl | rfl | rfl | rfl | rfl | rfl | rfl | rfl | rfl | rfl | rfl | rfl | rfl | rfl | rfl | rfl <;> rfl)⟩
theorem lk_L_12 : zLI R_law 12 yX3_init cX3_init 1 0 := ⟨lw_meth q1219, q98, q1217, q1218, rfl, by decide +kernel, by decide +kernel, by decide +kernel⟩
theorem lk_L_13 : zLV R_law 13 yX0_village cX0_village 5 (some .int) 3 := ⟨lw_V q325 q326 q327 q95 q328, by decide +kernel, by decide +kernel, by decide +kernel⟩
theorem lk_L_17 : zLV R_law 17 yX3_village cX3_village 6 (some .int) 3 := ⟨lw_V q1541 q1542 q1543 q98 q1544, by decide +kernel, by decide +kernel, by decide +kernel⟩
theorem lk_L_18 : zLV R_law 18 yX0_road cX0_road 4 (some .boolean) 3 := ⟨lw_V q415 q416 q417 q95 q418, by decide +kernel, by decide +kernel, by decide +kernel⟩
theorem lk_L_22 : zLV R_law 22 yX3_road cX3_road 4 (some .boolean) 3 := ⟨lw_V q1551 q1552 q1553 q98 q1554, by decide +kernel, by decide +kernel, by decide +kernel⟩
theorem lk_L_23 : zLV R_law 23 yX0_far cX0_far 5 (some .int) 2 := ⟨lw_V q423 q424 q425 q95 q426, by decide +kernel, by decide +kernel, by decide +kernel⟩
theorem lk_L_27 : zLV R_law 27 yX3_far cX3_far 3 (some .int) 2 := ⟨lw_V q1559 q1560 q1561 q98 q1562, by decide +kernel, by decide +kernel, by decide +kernel⟩
theorem lk_L_28 : zLV R_law 28 yX0_house cX0_house 4 (some .int) 2 := ⟨lw_V q431 q432 q433 q95 q434, by decide +kernel, by decide +kernel, by decide +kernel⟩
theorem lk_L_31 : zLV R_law 31 yX3_house cX3_house 4 (some .int) 2 := ⟨lw_V q1567 q1568 q1569 q98 q1570, by decide +kernel, by decide +kernel, by decide +kernel⟩
theorem lk_L_32 : zLV R_law 32 yX0_loom cX0_loom 5 (some .boolean) 3 := ⟨lw_V q499 q500 q501 q95 q502, by decide +kernel, by decide +kernel, by decide +kernel⟩
theorem lk_L_35 : zLV R_law 35 yX3_loom cX3_loom 4 (some .boolean) 3 := ⟨lw_V q1571 q1572 q1573 q98 q1574, by decide +kernel, by decide +kernel, by decide +kernel⟩
theorem lk_L_36 : zLV R_law 36 yX0_aim cX0_aim 4 (some .boolean) 2 := ⟨lw_V q533 q534 q535 q95 q536, by decide +kernel, by decide +kernel, by decide +kernel⟩
theorem lk_L_40 : zLV R_law 40 yX3_aim cX3_aim 3 (some .boolean) 2 := ⟨lw_V q1586 q1587 q1588 q98 q1589, by decide +kernel, by decide +kernel, by decide +kernel⟩
theorem lk_L_41 : zLV R_law 41 yX0_coins cX0_coins 4 (some .int) 2 := ⟨lw_V q537 q538 q539 q95 q540, by decide +kernel, by decide +kernel, by decide +kernel⟩
theorem lk_L_44 : zLV R_law 44 yX3_coins cX3_coins 3 (some .int) 2 := ⟨lw_V q1590 q1591 q1592 q98 q1593, by decide +kernel, by decide +kernel, by decide +kernel⟩
theorem lk_L_45 : zLV R_law 45 yX0_cotton cX0_cotton 4 (some .int) 2 := ⟨lw_V q542 q543 q544 q95 q545, by decide +kernel, by decide +kernel, by decide +kernel⟩
theorem lk_L_48 : zLV R_law 48 yX3_cotton cX3_cotton 3 (some .int) 2 := ⟨lw_V q1596 q1597 q1598 q98 q1599, by decide +kernel, by decide +kernel, by decide +kernel⟩
theorem lk_L_49 : zLV R_law 49 yX0_go cX0_go 3 (some .int) 1 := ⟨lw_V q546 q547 q548 q95 q549, by decide +kernel, by decide +kernel, by decide +kernel⟩
theorem lk_L_53 : zLV R_law 53 yX3_go cX3_go 3 (some .int) 1 := ⟨lw_V q1874 q1875 q1876 q98 q1877, by decide +kernel, by decide +kernel, by decide +kernel⟩
theorem lk_L_54 : zLV R_law 54 yX0_lot cX0_lot 4 (some .int) 2 := ⟨lw_V q707 q708 q709 q95 q710, by decide +kernel, by decide +kernel, by decide +kernel⟩
theorem lk_L_57 : zLV R_law 57 yX3_lot cX3_lot 3 (some .int) 2 := ⟨lw_V q1711 q1712 q1713 q98 q1714, by decide +kernel, by decide +kernel, by decide +kernel⟩
theorem lk_L_58 : zLV R_law 58 yX0_feed cX0_feed 6 (some .int) 5 := ⟨lw_V q715 q716 q717 q95 q718, by decide +kernel, by decide +kernel, by decide +kernel⟩
theorem lk_L_62 : zLV R_law 62 yX3_feed cX3_feed 6 (some .int) 5 := ⟨lw_V q1601 q1602 q1603 q98 q1604, by decide +kernel, by decide +kernel, by decide +kernel⟩
theorem lk_L_63 : zLV R_law 63 yX0_end cX0_end 2 (some .boolean) 1 := ⟨lw_V q723 q724 q725 q95 q726, by decide +kernel, by decide +kernel, by decide +kernel⟩
theorem lk_L_67 : zLV R_law 67 yX3_end cX3_end 2 (some .boolean) 1 := ⟨lw_V q1609 q1610 q1611 q98 q1612, by decide +kernel, by decide +kernel, by decide +kernel⟩
theorem lkW_L_68 : zLVW R_law 68 yX0_fault cX0_fault 2 (some .int) [(0, 17, 18, 348)] 0 := ⟨lw_VW q727 q728 q729 q95 q730, by decide +kernel, by decide +kernel, by decide +kernel⟩
theorem lk_L_72 : zLV R_law 72 yX3_fault cX3_fault 1 (some .int) 0 := ⟨lw_V q1613 q1614 q1615 q98 q1616, by decide +kernel, by decide +kernel, by decide +kernel⟩
theorem lkW_L_73 : zLVW R_law 73 yX0_sheet cX0_sheet 2 (some .int) [(11, 35, 38, 348)] 0 := ⟨lw_VW q1014 q1015 q1016 q95 q1017, by decide +kernel, by decide +kernel, by decide +kernel⟩
theorem lk_L_76 : zLV R_law 76 yX3_sheet cX3_sheet 3 (some .int) 0 := ⟨lw_V q1694 q1695 q1696 q98 q1697, by decide +kernel, by decide +kernel, by decide +kernel⟩
theorem lk_L_77 : zLV R_law 77 yX0_force cX0_force 3 (some .int) 2 := ⟨lw_V q1018 q1019 q1020 q95 q1021, by decide +kernel, by decide +kernel, by decide +kernel⟩
theorem lk_L_80 : zLV R_law 80 yX3_force cX3_force 3 (some .int) 2 := ⟨lw_V q1698 q1699 q1700 q98 q1701, by decide +kernel, by decide +kernel, by decide +kernel⟩
theorem lk_L_81 : zLV R_law 81 yX0_why cX0_why 3 (some .int) 2 := ⟨lw_V q1022 q1023 q1024 q95 q1025, by decide +kernel, by decide +kernel, by decide +kernel⟩
theorem lk_L_84 : zLV R_law 84 yX3_why cX3_why 3 (some .int) 2 := ⟨lw_V q1703 q1704 q1705 q98 q1706, by decide +kernel, by decide +kernel, by decide +kernel⟩
theorem lk_L_85 : zLV R_law 85 yX0_pay cX0_pay 6 (some .int) 3 := ⟨lw_V q1026 q1027 q1028 q95 q1029, by decide +kernel, by decide +kernel, by decide +kernel⟩
theorem lk_L_88 : zLV R_law 88 yX3_pay cX3_pay 4 (some .int) 3 := ⟨lw_V q1719 q1720 q1721 q98 q1722, by decide +kernel, by decide +kernel, by decide +kernel⟩
theorem lk_L_89 : zLV R_law 89 yX0_due cX0_due 4 (some .int) 2 := ⟨lw_V q1030 q1031 q1032 q95 q1033, by decide +kernel, by decide +kernel, by decide +kernel⟩
theorem lk_L_92 : zLV R_law 92 yX3_due cX3_due 3 (some .int) 2 := ⟨lw_V q1727 q1728 q1729 q98 q1730, by decide +kernel, by decide +kernel, by decide +kernel⟩
theorem lk_L_93 : zLV R_law 93 yX0_bar cX0_bar 6 (some .int) 3 := ⟨lw_V q1034 q1035 q1036 q95 q1037, by decide +kernel, by decide +kernel, by decide +kernel⟩
theorem lk_L_96 : zLV R_law 96 yX3_bar cX3_bar 4 (some .int) 3 := ⟨lw_V q1734 q1735 q1736 q98 q1737, by decide +kernel, by decide +kernel, by decide +kernel⟩
theorem lk_L_97 : zLV R_law 97 yX0_weave cX0_weave 8 (some .int) 3 := ⟨lw_V q1057 q1058 q1059 q95 q1060, by decide +kernel, by decide +kernel, by decide +kernel⟩
theorem lk_L_100 : zLV R_law 100 yX3_weave cX3_weave 5 (some .int) 3 := ⟨lw_V q1783 q1784 q1785 q98 q1786, by decide +kernel, by decide +kernel, by decide +kernel⟩
theorem lk_L_101 : zLV R_law 101 yX0_cloth cX0_cloth 4 (some .int) 2 := ⟨lw_V q1085 q1086 q1087 q95 q1088, by decide +kernel, by decide +kernel, by decide +kernel⟩
theorem lk_L_104 : zLV R_law 104 yX3_cloth cX3_cloth 3 (some .int) 2 := ⟨lw_V q1787 q1788 q1789 q98 q1790, by decide +kernel, by decide +kernel, by decide +kernel⟩
theorem lk_L_105 : zLV R_law 105 yX0_ask cX0_ask 4 (some .int) 1 := ⟨lw_V q1093 q1094 q1095 q95 q1096, by decide +kernel, by decide +kernel, by decide +kernel⟩
theorem lk_L_108 : zLV R_law 108 yX3_ask cX3_ask 3 (some .int) 1 := ⟨lw_V q1795 q1796 q1797 q98 q1798, by decide +kernel, by decide +kernel, by decide +kernel⟩
theorem lk_L_109 : zLV R_law 109 yX0_clear cX0_clear 2 (some .int) 0 := ⟨lw_V q1097 q1098 q1099 q95 q1100, by decide +kernel, by decide +kernel, by decide +kernel⟩
theorem lk_L_112 : zLV R_law 112 yX3_clear cX3_clear 2 (some .int) 0 := ⟨lw_V q1799 q1800 q1801 q98 q1802, by decide +kernel, by decide +kernel, by decide +kernel⟩
theorem lk_L_113 : zLV R_law 113 yX0_hands cX0_hands 3 (some .int) 2 := ⟨lw_V q1101 q1102 q1103 q95 q1104, by decide +kernel, by decide +kernel, by decide +kernel⟩
theorem lk_L_116 : zLV R_law 116 yX3_hands cX3_hands 3 (some .int) 2 := ⟨lw_V q1803 q1804 q1805 q98 q1806, by decide +kernel, by decide +kernel, by decide +kernel⟩
theorem lk_L_117 : zLV R_law 117 yX0_bring cX0_bring 5 (some .int) 2 := ⟨lw_V q1126 q1127 q1128 q95 q1129, by decide +kernel, by decide +kernel, by decide +kernel⟩
theorem lk_L_120 : zLV R_law 120 yX3_bring cX3_bring 3 (some .int) 2 := ⟨lw_V q1820 q1821 q1822 q98 q1823, by decide +kernel, by decide +kernel, by decide +kernel⟩
theorem lk_L_121 : zLV R_law 121 yX0_mill cX0_mill 4 (some .int) 2 := ⟨lw_V q1130 q1131 q1132 q95 q1133, by decide +kernel, by decide +kernel, by decide +kernel⟩
theorem lk_L_124 : zLV R_law 124 yX3_mill cX3_mill 3 (some .int) 2 := ⟨lw_V q1824 q1825 q1826 q98 q1827, by decide +kernel, by decide +kernel, by decide +kernel⟩
theorem lk_L_125 : zLV R_law 125 yX0_price cX0_price 4 (some .boolean) 2 := ⟨lw_V q1134 q1135 q1136 q95 q1137, by decide +kernel, by decide +kernel, by decide +kernel⟩
theorem lk_L_128 : zLV R_law 128 yX3_price cX3_price 3 (some .boolean) 2 := ⟨lw_V q1828 q1829 q1830 q98 q1831, by decide +kernel, by decide +kernel, by decide +kernel⟩
theorem lk_L_129 : zLV R_law 129 yX0_talk cX0_talk 4 (some .int) 2 := ⟨lw_V q1138 q1139 q1140 q95 q1141, by decide +kernel, by decide +kernel, by decide +kernel⟩
theorem lk_L_132 : zLV R_law 132 yX3_talk cX3_talk 3 (some .int) 2 := ⟨lw_V q1833 q1834 q1835 q98 q1836, by decide +kernel, by decide +kernel, by decide +kernel⟩
theorem lk_L_133 : zLV R_law 133 yX0_heard cX0_heard 5 (some .int) 2 := ⟨lw_V q1142 q1143 q1144 q95 q1145, by decide +kernel, by decide +kernel, by decide +kernel⟩
theorem lk_L_136 : zLV R_law 136 yX3_heard cX3_heard 4 (some .int) 2 := ⟨lw_V q1838 q1839 q1840 q98 q1841, by decide +kernel, by decide +kernel, by decide +kernel⟩
theorem lk_L_137 : zLV R_law 137 yX0_likes cX0_likes 3 (some .int) 1 := ⟨lw_V q1146 q1147 q1148 q95 q1149, by decide +kernel, by decide +kernel, by decide +kernel⟩
theorem lk_L_140 : zLV R_law 140 yX3_likes cX3_likes 4 (some .int) 1 := ⟨lw_V q1842 q1843 q1844 q98 q1845, by decide +kernel, by decide +kernel, by decide +kernel⟩
theorem lk_L_141 : zLV R_law 141 yX0_sold cX0_sold 4 (some .int) 2 := ⟨lw_V q1150 q1151 q1152 q95 q1153, by decide +kernel, by decide +kernel, by decide +kernel⟩
theorem lk_L_144 : zLV R_law 144 yX3_sold cX3_sold 3 (some .int) 2 := ⟨lw_V q1858 q1859 q1860 q98 q1861, by decide +kernel, by decide +kernel, by decide +kernel⟩
theorem lk_L_145 : zLV R_law 145 yX0_wrong cX0_wrong 4 (some .int) 2 := ⟨lw_V q1154 q1155 q1156 q95 q1157, by decide +kernel, by decide +kernel, by decide +kernel⟩
theorem lk_L_149 : zLV R_law 149 yX3_wrong cX3_wrong 3 (some .int) 2 := ⟨lw_V q1862 q1863 q1864 q98 q1865, by decide +kernel, by decide +kernel, by decide +kernel⟩
theorem lk_L_150 : zLV R_law 150 yX0_look cX0_look 5 (some .int) 0 := ⟨lw_V q1161 q1162 q1163 q95 q1164, by decide +kernel, by decide +kernel, by decide +kernel⟩
theorem lk_L_153 : zLV R_law 153 yX3_look cX3_look 5 (some .int) 0 := ⟨lw_V q1870 q1871 q1872 q98 q1873, by decide +kernel, by decide +kernel, by decide +kernel⟩
theorem lk_L_154 : zLV R_law 154 yX0_gift cX0_gift 4 (some .int) 3 := ⟨lw_V q1165 q1166 q1167 q95 q1168, by decide +kernel, by decide +kernel, by decide +kernel⟩
theorem lk_L_157 : zLV R_law 157 yX3_gift cX3_gift 4 (some .int) 3 := ⟨lw_V q1912 q1913 q1914 q98 q1915, by decide +kernel, by decide +kernel, by decide +kernel⟩
theorem lk_L_158 : zLV R_law 158 yX0_forget cX0_forget 2 (some .int) 0 := ⟨lw_V q1169 q1170 q1171 q95 q1172, by decide +kernel, by decide +kernel, by decide +kernel⟩
theorem lk_L_161 : zLV R_law 161 yX3_forget cX3_forget 2 (some .int) 0 := ⟨lw_V q1916 q1917 q1918 q98 q1919, by decide +kernel, by decide +kernel, by decide +kernel⟩
theorem lk_L_162 : zLV R_law 162 yX0_best cX0_best 9 (some .int) 2 := ⟨lw_V q1173 q1174 q1175 q95 q1176, by decide +kernel, by decide +kernel, by decide +kernel⟩
theorem lk_L_165 : zLV R_law 165 yX3_best cX3_best 7 (some .int) 2 := ⟨lw_V q1920 q1921 q1922 q98 q1923, by decide +kernel, by decide +kernel, by decide +kernel⟩
theorem lk_L_166 : zLV R_law 166 yX0_hungry cX0_hungry 4 (some .int) 1 := ⟨lw_V q1181 q1182 q1183 q95 q1184, by decide +kernel, by decide +kernel, by decide +kernel⟩
theorem lk_L_169 : zLV R_law 169 yX3_hungry cX3_hungry 4 (some .int) 1 := ⟨lw_V q1932 q1933 q1934 q98 q1935, by decide +kernel, by decide +kernel, by decide +kernel⟩
theorem lk_L_170 : zLV R_law 170 yX0_keeps cX0_keeps 5 (some .int) 2 := ⟨lw_V q1185 q1186 q1187 q95 q1188, by decide +kernel, by decide +kernel, by decide +kernel⟩
theorem lk_L_173 : zLV R_law 173 yX3_keeps cX3_keeps 6 (some .int) 2 := ⟨lw_V q1936 q1937 q1938 q98 q1939, by decide +kernel, by decide +kernel, by decide +kernel⟩
theorem lk_L_174 : zLV R_law 174 yX0_told cX0_told 3 (some .int) 2 := ⟨lw_V q1190 q1191 q1192 q95 q1193, by decide +kernel, by decide +kernel, by decide +kernel⟩
theorem lk_L_177 : zLV R_law 177 yX3_told cX3_told 3 (some .int) 2 := ⟨lw_V q1940 q1941 q1942 q98 q1943, by decide +kernel, by decide +kernel, by decide +kernel⟩
theorem lk_L_178 : zLV R_law 178 yX0_check cX0_check 10 (some .int) 3 := ⟨lw_V q1194 q1195 q1196 q95 q1197, by decide +kernel, by decide +kernel, by decide +kernel⟩
theorem lk_L_181 : zLV R_law 181 yX3_check cX3_check 6 (some .int) 3 := ⟨lw_V q1945 q1946 q1947 q98 q1948, by decide +kernel, by decide +kernel, by decide +kernel⟩
theorem lk_L_182 : zLV R_law 182 yX0_is cX0_is 4 (some .int) 2 := ⟨lw_V q1203 q1204 q1205 q95 q1206, by decide +kernel, by decide +kernel, by decide +kernel⟩
theorem lk_L_185 : zLV R_law 185 yX3_is cX3_is 3 (some .int) 2 := ⟨lw_V q1949 q1950 q1951 q98 q1952, by decide +kernel, by decide +kernel, by decide +kernel⟩
theorem lk_L_186 : zLV R_law 186 yX0_has cX0_has 4 (some .int) 2 := ⟨lw_V q1207 q1208 q1209 q95 q1210, by decide +kernel, by decide +kernel, by decide +kernel⟩
theorem lk_L_189 : zLV R_law 189 yX3_has cX3_has 3 (some .int) 2 := ⟨lw_V q1953 q1954 q1955 q98 q1956, by decide +kernel, by decide +kernel, by decide +kernel⟩
theorem lk_L_190 : zLV R_law 190 yX0_count cX0_count 2 (some .int) 1 := ⟨lw_V q1211 q1212 q1213 q95 q1214, by decide +kernel, by decide +kernel, by decide +kernel⟩
theorem lk_L_193 : zLV R_law 193 yX3_count cX3_count 2 (some .int) 1 := ⟨lw_V q1957 q1958 q1959 q98 q1960, by decide +kernel, by decide +kernel, by decide +kernel⟩
def f_L_law_L18 (x0 : Nat) (x1 : Nat) (x2 : Nat) : Nat → Int32 → zM → Option (Int32 × zM)
  | 0, _, _ => none
  | n + 1, x3, u => if ((Int32.ofNat (mN u x0)) - 6) < x3 then (gb 1 (some (1, u))) else (ix x3 (mN u x0) (lt (fun (u5 : zM) => f_L_law_L18 x0 x1 x2 n (x3 + 6) u5) fun j1 => if ((mI u x0 (xN x3)) &&& 63) = 0 then (ix (x3 + 1) (mN u x0) (ix (x3 + 2) (mN u x0) (ix (x3 + 3) (mN u x0) (bd (f_X0_village x1 (mI u x0 (xN (x3 + 1))) (mI u x0 (xN (x3 + 2))) (mI u x0 (xN (x3 + 3))) u) fun v3 u6 => ix (x3 + 1) (mN u6 x0) (ix (x3 + 2) (mN u6 x0) (ix (x3 + 3) (mN u6 x0) (bd (f_X3_village x2 (mI u6 x0 (xN (x3 + 1))) (mI u6 x0 (xN (x3 + 2))) (mI u6 x0 (xN (x3 + 3))) u6) fun v4 u7 => if v3 = v4 then (j1 u7) else (gb 0 (some (0, u7)))))))))) else (if ((mI u x0 (xN x3)) &&& 63) = 1 then (ix (x3 + 1) (mN u x0) (ix (x3 + 2) (mN u x0) (ix (x3 + 3) (mN u x0) (bd (f_X0_road x1 (mI u x0 (xN (x3 + 1))) (mI u x0 (xN (x3 + 2))) (mI u x0 (xN (x3 + 3))) u) fun v5 u8 => ix (x3 + 1) (mN u8 x0) (ix (x3 + 2) (mN u8 x0) (ix (x3 + 3) (mN u8 x0) (bd (f_X3_road x2 (mI u8 x0 (xN (x3 + 1))) (mI u8 x0 (xN (x3 + 2))) (mI u8 x0 (xN (x3 + 3))) u8) fun v6 u9 => if v5 = v6 then (j1 u9) else (gb 0 (some (0, u9)))))))))) else (if ((mI u x0 (xN x3)) &&& 63) = 2 then (ix (x3 + 1) (mN u x0) (ix (x3 + 2) (mN u x0) (bd (f_X0_far x1 (mI u x0 (xN (x3 + 1))) (mI u x0 (xN (x3 + 2))) u) fun v7 u10 => ix (x3 + 1) (mN u10 x0) (ix (x3 + 2) (mN u10 x0) (bd (f_X3_far x2 (mI u10 x0 (xN (x3 + 1))) (mI u10 x0 (xN (x3 + 2))) u10) fun v8 u11 => if v7 = v8 then (j1 u11) else (gb 0 (some (0, u11)))))))) else (if ((mI u x0 (xN x3)) &&& 63) = 3 then (ix (x3 + 1) (mN u x0) (ix (x3 + 2) (mN u x0) (bd (f_X0_house x1 (mI u x0 (xN (x3 + 1))) (mI u x0 (xN (x3 + 2))) u) fun v9 u12 => ix (x3 + 1) (mN u12 x0) (ix (x3 + 2) (mN u12 x0) (bd (f_X3_house x2 (mI u12 x0 (xN (x3 + 1))) (mI u12 x0 (xN (x3 + 2))) u12) fun v10 u13 => if v9 = v10 then (j1 u13) else (gb 0 (some (0, u13)))))))) else (if ((mI u x0 (xN x3)) &&& 63) = 4 then (ix (x3 + 1) (mN u x0) (ix (x3 + 2) (mN u x0) (ix (x3 + 3) (mN u x0) (bd (f_X0_loom x1 (mI u x0 (xN (x3 + 1))) (mI u x0 (xN (x3 + 2))) (mI u x0 (xN (x3 + 3))) u) fun v11 u14 => ix (x3 + 1) (mN u14 x0) (ix (x3 + 2) (mN u14 x0) (ix (x3 + 3) (mN u14 x0) (bd (f_X3_loom x2 (mI u14 x0 (xN (x3 + 1))) (mI u14 x0 (xN (x3 + 2))) (mI u14 x0 (xN (x3 + 3))) u14) fun v12 u15 => if v11 = v12 then (j1 u15) else (gb 0 (some (0, u15)))))))))) else (if ((mI u x0 (xN x3)) &&& 63) = 5 then (ix (x3 + 1) (mN u x0) (ix (x3 + 2) (mN u x0) (bd (f_X0_aim x1 (mI u x0 (xN (x3 + 1))) (mI u x0 (xN (x3 + 2))) u) fun v13 u16 => ix (x3 + 1) (mN u16 x0) (ix (x3 + 2) (mN u16 x0) (bd (f_X3_aim x2 (mI u16 x0 (xN (x3 + 1))) (mI u16 x0 (xN (x3 + 2))) u16) fun v14 u17 => if v13 = v14 then (j1 u17) else (gb 0 (some (0, u17)))))))) else (if ((mI u x0 (xN x3)) &&& 63) = 6 then (ix (x3 + 1) (mN u x0) (ix (x3 + 2) (mN u x0) (bd (f_X0_coins x1 (mI u x0 (xN (x3 + 1))) (mI u x0 (xN (x3 + 2))) u) fun v15 u18 => ix (x3 + 1) (mN u18 x0) (ix (x3 + 2) (mN u18 x0) (bd (f_X3_coins x2 (mI u18 x0 (xN (x3 + 1))) (mI u18 x0 (xN (x3 + 2))) u18) fun v16 u19 => if v15 = v16 then (j1 u19) else (gb 0 (some (0, u19)))))))) else (if ((mI u x0 (xN x3)) &&& 63) = 7 then (ix (x3 + 1) (mN u x0) (ix (x3 + 2) (mN u x0) (bd (f_X0_cotton x1 (mI u x0 (xN (x3 + 1))) (mI u x0 (xN (x3 + 2))) u) fun v17 u20 => ix (x3 + 1) (mN u20 x0) (ix (x3 + 2) (mN u20 x0) (bd (f_X3_cotton x2 (mI u20 x0 (xN (x3 + 1))) (mI u20 x0 (xN (x3 + 2))) u20) fun v18 u21 => if v17 = v18 then (j1 u21) else (gb 0 (some (0, u21)))))))) else (if ((mI u x0 (xN x3)) &&& 63) = 8 then (ix (x3 + 1) (mN u x0) (bd (f_X0_go x1 (mI u x0 (xN (x3 + 1))) u) fun v19 u22 => ix (x3 + 1) (mN u22 x0) (bd (f_X3_go x2 (mI u22 x0 (xN (x3 + 1))) u22) fun v20 u23 => if v19 = v20 then (j1 u23) else (gb 0 (some (0, u23)))))) else (if ((mI u x0 (xN x3)) &&& 63) = 9 then (ix (x3 + 1) (mN u x0) (ix (x3 + 2) (mN u x0) (bd (f_X0_lot x1 (mI u x0 (xN (x3 + 1))) (mI u x0 (xN (x3 + 2))) u) fun v21 u24 => ix (x3 + 1) (mN u24 x0) (ix (x3 + 2) (mN u24 x0) (bd (f_X3_lot x2 (mI u24 x0 (xN (x3 + 1))) (mI u24 x0 (xN (x3 + 2))) u24) fun v22 u25 => if v21 = v22 then (j1 u25) else (gb 0 (some (0, u25)))))))) else (if ((mI u x0 (xN x3)) &&& 63) = 10 then (ix (x3 + 1) (mN u x0) (ix (x3 + 2) (mN u x0) (ix (x3 + 3) (mN u x0) (ix (x3 + 4) (mN u x0) (ix (x3 + 5) (mN u x0) (bd (f_X0_feed x1 (mI u x0 (xN (x3 + 1))) (mI u x0 (xN (x3 + 2))) (mI u x0 (xN (x3 + 3))) (mI u x0 (xN (x3 + 4))) (mI u x0 (xN (x3 + 5))) u) fun v23 u26 => ix (x3 + 1) (mN u26 x0) (ix (x3 + 2) (mN u26 x0) (ix (x3 + 3) (mN u26 x0) (ix (x3 + 4) (mN u26 x0) (ix (x3 + 5) (mN u26 x0) (bd (f_X3_feed x2 (mI u26 x0 (xN (x3 + 1))) (mI u26 x0 (xN (x3 + 2))) (mI u26 x0 (xN (x3 + 3))) (mI u26 x0 (xN (x3 + 4))) (mI u26 x0 (xN (x3 + 5))) u26) fun v24 u27 => if v23 = v24 then (j1 u27) else (gb 0 (some (0, u27)))))))))))))) else (if ((mI u x0 (xN x3)) &&& 63) = 11 then (ix (x3 + 1) (mN u x0) (bd (f_X0_end x1 (mI u x0 (xN (x3 + 1))) u) fun v25 u28 => ix (x3 + 1) (mN u28 x0) (bd (f_X3_end x2 (mI u28 x0 (xN (x3 + 1))) u28) fun v26 u29 => if v25 = v26 then (j1 u29) else (gb 0 (some (0, u29)))))) else (if ((mI u x0 (xN x3)) &&& 63) = 12 then (bd (f_X0_fault x1 u) fun v27 u30 => bd (f_X3_fault x2 u30) fun v28 u31 => if v27 = v28 then (j1 u31) else (gb 0 (some (0, u31)))) else (if ((mI u x0 (xN x3)) &&& 63) = 13 then (bd (f_X0_sheet x1 u) fun v29 u32 => bd (f_X3_sheet x2 u32) fun v30 u33 => if v29 = v30 then (j1 u33) else (gb 0 (some (0, u33)))) else (if ((mI u x0 (xN x3)) &&& 63) = 14 then (ix (x3 + 1) (mN u x0) (ix (x3 + 2) (mN u x0) (bd (f_X0_force x1 (mI u x0 (xN (x3 + 1))) (mI u x0 (xN (x3 + 2))) u) fun v31 u34 => ix (x3 + 1) (mN u34 x0) (ix (x3 + 2) (mN u34 x0) (bd (f_X3_force x2 (mI u34 x0 (xN (x3 + 1))) (mI u34 x0 (xN (x3 + 2))) u34) fun v32 u35 => if v31 = v32 then (j1 u35) else (gb 0 (some (0, u35)))))))) else (if ((mI u x0 (xN x3)) &&& 63) = 15 then (ix (x3 + 1) (mN u x0) (ix (x3 + 2) (mN u x0) (bd (f_X0_why x1 (mI u x0 (xN (x3 + 1))) (mI u x0 (xN (x3 + 2))) u) fun v33 u36 => ix (x3 + 1) (mN u36 x0) (ix (x3 + 2) (mN u36 x0) (bd (f_X3_why x2 (mI u36 x0 (xN (x3 + 1))) (mI u36 x0 (xN (x3 + 2))) u36) fun v34 u37 => if v33 = v34 then (j1 u37) else (gb 0 (some (0, u37)))))))) else (if ((mI u x0 (xN x3)) &&& 63) = 16 then (ix (x3 + 1) (mN u x0) (ix (x3 + 2) (mN u x0) (ix (x3 + 3) (mN u x0) (bd (f_X0_pay x1 (mI u x0 (xN (x3 + 1))) (mI u x0 (xN (x3 + 2))) (mI u x0 (xN (x3 + 3))) u) fun v35 u38 => ix (x3 + 1) (mN u38 x0) (ix (x3 + 2) (mN u38 x0) (ix (x3 + 3) (mN u38 x0) (bd (f_X3_pay x2 (mI u38 x0 (xN (x3 + 1))) (mI u38 x0 (xN (x3 + 2))) (mI u38 x0 (xN (x3 + 3))) u38) fun v36 u39 => if v35 = v36 then (j1 u39) else (gb 0 (some (0, u39)))))))))) else (if ((mI u x0 (xN x3)) &&& 63) = 17 then (ix (x3 + 1) (mN u x0) (ix (x3 + 2) (mN u x0) (bd (f_X0_due x1 (mI u x0 (xN (x3 + 1))) (mI u x0 (xN (x3 + 2))) u) fun v37 u40 => ix (x3 + 1) (mN u40 x0) (ix (x3 + 2) (mN u40 x0) (bd (f_X3_due x2 (mI u40 x0 (xN (x3 + 1))) (mI u40 x0 (xN (x3 + 2))) u40) fun v38 u41 => if v37 = v38 then (j1 u41) else (gb 0 (some (0, u41)))))))) else (if ((mI u x0 (xN x3)) &&& 63) = 18 then (ix (x3 + 1) (mN u x0) (ix (x3 + 2) (mN u x0) (ix (x3 + 3) (mN u x0) (bd (f_X0_bar x1 (mI u x0 (xN (x3 + 1))) (mI u x0 (xN (x3 + 2))) (mI u x0 (xN (x3 + 3))) u) fun v39 u42 => ix (x3 + 1) (mN u42 x0) (ix (x3 + 2) (mN u42 x0) (ix (x3 + 3) (mN u42 x0) (bd (f_X3_bar x2 (mI u42 x0 (xN (x3 + 1))) (mI u42 x0 (xN (x3 + 2))) (mI u42 x0 (xN (x3 + 3))) u42) fun v40 u43 => if v39 = v40 then (j1 u43) else (gb 0 (some (0, u43)))))))))) else (if ((mI u x0 (xN x3)) &&& 63) = 19 then (ix (x3 + 1) (mN u x0) (ix (x3 + 2) (mN u x0) (ix (x3 + 3) (mN u x0) (bd (f_X0_weave x1 (mI u x0 (xN (x3 + 1))) (mI u x0 (xN (x3 + 2))) (mI u x0 (xN (x3 + 3))) u) fun v41 u44 => ix (x3 + 1) (mN u44 x0) (ix (x3 + 2) (mN u44 x0) (ix (x3 + 3) (mN u44 x0) (bd (f_X3_weave x2 (mI u44 x0 (xN (x3 + 1))) (mI u44 x0 (xN (x3 + 2))) (mI u44 x0 (xN (x3 + 3))) u44) fun v42 u45 => if v41 = v42 then (j1 u45) else (gb 0 (some (0, u45)))))))))) else (if ((mI u x0 (xN x3)) &&& 63) = 20 then (ix (x3 + 1) (mN u x0) (ix (x3 + 2) (mN u x0) (bd (f_X0_cloth x1 (mI u x0 (xN (x3 + 1))) (mI u x0 (xN (x3 + 2))) u) fun v43 u46 => ix (x3 + 1) (mN u46 x0) (ix (x3 + 2) (mN u46 x0) (bd (f_X3_cloth x2 (mI u46 x0 (xN (x3 + 1))) (mI u46 x0 (xN (x3 + 2))) u46) fun v44 u47 => if v43 = v44 then (j1 u47) else (gb 0 (some (0, u47)))))))) else (if ((mI u x0 (xN x3)) &&& 63) = 21 then (ix (x3 + 1) (mN u x0) (bd (f_X0_ask x1 (mI u x0 (xN (x3 + 1))) u) fun v45 u48 => ix (x3 + 1) (mN u48 x0) (bd (f_X3_ask x2 (mI u48 x0 (xN (x3 + 1))) u48) fun v46 u49 => if v45 = v46 then (j1 u49) else (gb 0 (some (0, u49)))))) else (if ((mI u x0 (xN x3)) &&& 63) = 22 then (bd (f_X0_clear x1 u) fun v47 u50 => bd (f_X3_clear x2 u50) fun v48 u51 => if v47 = v48 then (j1 u51) else (gb 0 (some (0, u51)))) else (if ((mI u x0 (xN x3)) &&& 63) = 23 then (ix (x3 + 1) (mN u x0) (ix (x3 + 2) (mN u x0) (bd (f_X0_hands x1 (mI u x0 (xN (x3 + 1))) (mI u x0 (xN (x3 + 2))) u) fun v49 u52 => ix (x3 + 1) (mN u52 x0) (ix (x3 + 2) (mN u52 x0) (bd (f_X3_hands x2 (mI u52 x0 (xN (x3 + 1))) (mI u52 x0 (xN (x3 + 2))) u52) fun v50 u53 => if v49 = v50 then (j1 u53) else (gb 0 (some (0, u53)))))))) else (if ((mI u x0 (xN x3)) &&& 63) = 24 then (ix (x3 + 1) (mN u x0) (ix (x3 + 2) (mN u x0) (bd (f_X0_bring x1 (mI u x0 (xN (x3 + 1))) (mI u x0 (xN (x3 + 2))) u) fun v51 u54 => ix (x3 + 1) (mN u54 x0) (ix (x3 + 2) (mN u54 x0) (bd (f_X3_bring x2 (mI u54 x0 (xN (x3 + 1))) (mI u54 x0 (xN (x3 + 2))) u54) fun v52 u55 => if v51 = v52 then (j1 u55) else (gb 0 (some (0, u55)))))))) else (if ((mI u x0 (xN x3)) &&& 63) = 25 then (ix (x3 + 1) (mN u x0) (ix (x3 + 2) (mN u x0) (bd (f_X0_mill x1 (mI u x0 (xN (x3 + 1))) (mI u x0 (xN (x3 + 2))) u) fun v53 u56 => ix (x3 + 1) (mN u56 x0) (ix (x3 + 2) (mN u56 x0) (bd (f_X3_mill x2 (mI u56 x0 (xN (x3 + 1))) (mI u56 x0 (xN (x3 + 2))) u56) fun v54 u57 => if v53 = v54 then (j1 u57) else (gb 0 (some (0, u57)))))))) else (if ((mI u x0 (xN x3)) &&& 63) = 26 then (ix (x3 + 1) (mN u x0) (ix (x3 + 2) (mN u x0) (bd (f_X0_price x1 (mI u x0 (xN (x3 + 1))) (mI u x0 (xN (x3 + 2))) u) fun v55 u58 => ix (x3 + 1) (mN u58 x0) (ix (x3 + 2) (mN u58 x0) (bd (f_X3_price x2 (mI u58 x0 (xN (x3 + 1))) (mI u58 x0 (xN (x3 + 2))) u58) fun v56 u59 => if v55 = v56 then (j1 u59) else (gb 0 (some (0, u59)))))))) else (if ((mI u x0 (xN x3)) &&& 63) = 27 then (ix (x3 + 1) (mN u x0) (ix (x3 + 2) (mN u x0) (bd (f_X0_talk x1 (mI u x0 (xN (x3 + 1))) (mI u x0 (xN (x3 + 2))) u) fun v57 u60 => ix (x3 + 1) (mN u60 x0) (ix (x3 + 2) (mN u60 x0) (bd (f_X3_talk x2 (mI u60 x0 (xN (x3 + 1))) (mI u60 x0 (xN (x3 + 2))) u60) fun v58 u61 => if v57 = v58 then (j1 u61) else (gb 0 (some (0, u61)))))))) else (if ((mI u x0 (xN x3)) &&& 63) = 28 then (ix (x3 + 1) (mN u x0) (ix (x3 + 2) (mN u x0) (bd (f_X0_heard x1 (mI u x0 (xN (x3 + 1))) (mI u x0 (xN (x3 + 2))) u) fun v59 u62 => ix (x3 + 1) (mN u62 x0) (ix (x3 + 2) (mN u62 x0) (bd (f_X3_heard x2 (mI u62 x0 (xN (x3 + 1))) (mI u62 x0 (xN (x3 + 2))) u62) fun v60 u63 => if v59 = v60 then (j1 u63) else (gb 0 (some (0, u63)))))))) else (if ((mI u x0 (xN x3)) &&& 63) = 29 then (ix (x3 + 1) (mN u x0) (bd (f_X0_likes x1 (mI u x0 (xN (x3 + 1))) u) fun v61 u64 => ix (x3 + 1) (mN u64 x0) (bd (f_X3_likes x2 (mI u64 x0 (xN (x3 + 1))) u64) fun v62 u65 => if v61 = v62 then (j1 u65) else (gb 0 (some (0, u65)))))) else (if ((mI u x0 (xN x3)) &&& 63) = 30 then (ix (x3 + 1) (mN u x0) (ix (x3 + 2) (mN u x0) (bd (f_X0_sold x1 (mI u x0 (xN (x3 + 1))) (mI u x0 (xN (x3 + 2))) u) fun v63 u66 => ix (x3 + 1) (mN u66 x0) (ix (x3 + 2) (mN u66 x0) (bd (f_X3_sold x2 (mI u66 x0 (xN (x3 + 1))) (mI u66 x0 (xN (x3 + 2))) u66) fun v64 u67 => if v63 = v64 then (j1 u67) else (gb 0 (some (0, u67)))))))) else (if ((mI u x0 (xN x3)) &&& 63) = 31 then (ix (x3 + 1) (mN u x0) (ix (x3 + 2) (mN u x0) (lt (fun (z1 : Int32) (u68 : zM) => bd (f_X0_wrong x1 (mI u x0 (xN (x3 + 1))) z1 u68) fun v65 u69 => ix (x3 + 1) (mN u69 x0) (ix (x3 + 2) (mN u69 x0) (lt (fun (z2 : Int32) (u70 : zM) => bd (f_X3_wrong x2 (mI u69 x0 (xN (x3 + 1))) z2 u70) fun v66 u71 => if v65 = v66 then (j1 u71) else (gb 0 (some (0, u71)))) fun j3 => if (mI u69 x0 (xN (x3 + 2))) = 0 then (j3 0 u69) else (j3 1 u69)))) fun j2 => if (mI u x0 (xN (x3 + 2))) = 0 then (j2 0 u) else (j2 1 u)))) else (if ((mI u x0 (xN x3)) &&& 63) = 32 then (bd (f_X0_look x1 u) fun v67 u72 => bd (f_X3_look x2 u72) fun v68 u73 => if v67 = v68 then (j1 u73) else (gb 0 (some (0, u73)))) else (if ((mI u x0 (xN x3)) &&& 63) = 33 then (ix (x3 + 1) (mN u x0) (ix (x3 + 2) (mN u x0) (ix (x3 + 3) (mN u x0) (bd (f_X0_gift x1 (mI u x0 (xN (x3 + 1))) (mI u x0 (xN (x3 + 2))) (mI u x0 (xN (x3 + 3))) u) fun v69 u74 => ix (x3 + 1) (mN u74 x0) (ix (x3 + 2) (mN u74 x0) (ix (x3 + 3) (mN u74 x0) (bd (f_X3_gift x2 (mI u74 x0 (xN (x3 + 1))) (mI u74 x0 (xN (x3 + 2))) (mI u74 x0 (xN (x3 + 3))) u74) fun v70 u75 => if v69 = v70 then (j1 u75) else (gb 0 (some (0, u75)))))))))) else (if ((mI u x0 (xN x3)) &&& 63) = 34 then (bd (f_X0_forget x1 u) fun v71 u76 => bd (f_X3_forget x2 u76) fun v72 u77 => if v71 = v72 then (j1 u77) else (gb 0 (some (0, u77)))) else (if ((mI u x0 (xN x3)) &&& 63) = 35 then (ix (x3 + 1) (mN u x0) (ix (x3 + 2) (mN u x0) (bd (f_X0_best x1 (mI u x0 (xN (x3 + 1))) (mI u x0 (xN (x3 + 2))) u) fun v73 u78 => ix (x3 + 1) (mN u78 x0) (ix (x3 + 2) (mN u78 x0) (bd (f_X3_best x2 (mI u78 x0 (xN (x3 + 1))) (mI u78 x0 (xN (x3 + 2))) u78) fun v74 u79 => if v73 = v74 then (j1 u79) else (gb 0 (some (0, u79)))))))) else (if ((mI u x0 (xN x3)) &&& 63) = 36 then (ix (x3 + 1) (mN u x0) (bd (f_X0_hungry x1 (mI u x0 (xN (x3 + 1))) u) fun v75 u80 => ix (x3 + 1) (mN u80 x0) (bd (f_X3_hungry x2 (mI u80 x0 (xN (x3 + 1))) u80) fun v76 u81 => if v75 = v76 then (j1 u81) else (gb 0 (some (0, u81)))))) else (if ((mI u x0 (xN x3)) &&& 63) = 37 then (ix (x3 + 1) (mN u x0) (ix (x3 + 2) (mN u x0) (bd (f_X0_keeps x1 (mI u x0 (xN (x3 + 1))) (mI u x0 (xN (x3 + 2))) u) fun v77 u82 => ix (x3 + 1) (mN u82 x0) (ix (x3 + 2) (mN u82 x0) (bd (f_X3_keeps x2 (mI u82 x0 (xN (x3 + 1))) (mI u82 x0 (xN (x3 + 2))) u82) fun v78 u83 => if v77 = v78 then (j1 u83) else (gb 0 (some (0, u83)))))))) else (if ((mI u x0 (xN x3)) &&& 63) = 38 then (ix (x3 + 1) (mN u x0) (ix (x3 + 2) (mN u x0) (bd (f_X0_told x1 (mI u x0 (xN (x3 + 1))) (mI u x0 (xN (x3 + 2))) u) fun v79 u84 => ix (x3 + 1) (mN u84 x0) (ix (x3 + 2) (mN u84 x0) (bd (f_X3_told x2 (mI u84 x0 (xN (x3 + 1))) (mI u84 x0 (xN (x3 + 2))) u84) fun v80 u85 => if v79 = v80 then (j1 u85) else (gb 0 (some (0, u85)))))))) else (if ((mI u x0 (xN x3)) &&& 63) = 39 then (ix (x3 + 1) (mN u x0) (ix (x3 + 2) (mN u x0) (ix (x3 + 3) (mN u x0) (bd (f_X0_check x1 (mI u x0 (xN (x3 + 1))) (mI u x0 (xN (x3 + 2))) (mI u x0 (xN (x3 + 3))) u) fun v81 u86 => ix (x3 + 1) (mN u86 x0) (ix (x3 + 2) (mN u86 x0) (ix (x3 + 3) (mN u86 x0) (bd (f_X3_check x2 (mI u86 x0 (xN (x3 + 1))) (mI u86 x0 (xN (x3 + 2))) (mI u86 x0 (xN (x3 + 3))) u86) fun v82 u87 => if v81 = v82 then (j1 u87) else (gb 0 (some (0, u87)))))))))) else (if ((mI u x0 (xN x3)) &&& 63) = 40 then (ix (x3 + 1) (mN u x0) (ix (x3 + 2) (mN u x0) (bd (f_X0_is x1 (mI u x0 (xN (x3 + 1))) (mI u x0 (xN (x3 + 2))) u) fun v83 u88 => ix (x3 + 1) (mN u88 x0) (ix (x3 + 2) (mN u88 x0) (bd (f_X3_is x2 (mI u88 x0 (xN (x3 + 1))) (mI u88 x0 (xN (x3 + 2))) u88) fun v84 u89 => if v83 = v84 then (j1 u89) else (gb 0 (some (0, u89)))))))) else (if ((mI u x0 (xN x3)) &&& 63) = 41 then (ix (x3 + 1) (mN u x0) (ix (x3 + 2) (mN u x0) (bd (f_X0_has x1 (mI u x0 (xN (x3 + 1))) (mI u x0 (xN (x3 + 2))) u) fun v85 u90 => ix (x3 + 1) (mN u90 x0) (ix (x3 + 2) (mN u90 x0) (bd (f_X3_has x2 (mI u90 x0 (xN (x3 + 1))) (mI u90 x0 (xN (x3 + 2))) u90) fun v86 u91 => if v85 = v86 then (j1 u91) else (gb 0 (some (0, u91)))))))) else (if ((mI u x0 (xN x3)) &&& 63) = 42 then (ix (x3 + 1) (mN u x0) (bd (f_X0_count x1 (mI u x0 (xN (x3 + 1))) u) fun v87 u92 => ix (x3 + 1) (mN u92 x0) (bd (f_X3_count x2 (mI u92 x0 (xN (x3 + 1))) u92) fun v88 u93 => if v87 = v88 then (j1 u93) else (gb 0 (some (0, u93)))))) else (j1 u)))))))))))))))))))))))))))))))))))))))))))))
section
variable {c0 s0 : Nat} {tbv : List ExceptionTableEntry}
set_option maxHeartbeats 4000000 in
theorem g_L_law_L18 (x0 : Nat) (x1 : Nat) (x2 : Nat) (t_x0 : kd x0 = 30) (t_x1 : kd x1 = 0) (t_x2 : kd x2 = 3) : ∀ (n : Nat) (x3 : Int32) (u : zM), Go R_law cL_law 4 (some .boolean) false 2367 67420 tbv (obT) (zQ rvI) c0 s0 18 [(0, .ref x0), (1, .ref x1), (2, .ref x2), (3, .int x3)] [] [] u (f_L_law_L18 x0 x1 x2 n x3 u) := by
  intro n
  induction n with
  | zero => intros; exact go_none
  | succ n ih =>
    intro x3 u
    unfold f_L_law_L18
    refine go_iload_n (pc := 18) (j := 3) (i := 3) dL_law_18 rfl rfl ?_
    refine go_aload_n (pc := 19) (j := 0) (i := 0) dL_law_19 rfl rfl ?_
    refine go_salen (pc := 20) t_x0 dL_law_20 ?_
    refine go_bipush (pc := 21) (v := 6) dL_law_21 (by decide) ?_
    refine go_isub (pc := 23) dL_law_23 ?_
    refine go_icmp_gt (pc := 24) (tgt := 1611) dL_law_24 (by decide) (fun h1 => ?_) (fun h1 => ?_)
    · refine go_iconst (pc := 1611) (v := 1) dL_law_1611 (by decide) ?_
      exact go_zreturn (pc := 1612) rfl dL_law_1612
    · refine go_aload_n (pc := 27) (j := 0) (i := 0) dL_law_27 rfl rfl ?_
      refine go_iload_n (pc := 28) (j := 3) (i := 3) dL_law_28 rfl rfl ?_
      refine go_sald (pc := 29) t_x0 dL_law_29 ?_
      refine go_bipush (pc := 30) (v := 63) dL_law_30 (by decide) ?_
      refine go_iand (pc := 32) dL_law_32 ?_
      refine go_join0 (pcx := 1605) ([(0, .ref x0), (1, .ref x1), (2, .ref x2), (3, .int x3)]) ([]) ([]) (True) (fun u5 _ => ?_) (fun j1 hj1 => ?_)
      · refine go_iinc (pc := 1605) (i := 3) (w := 6) (A' := [(0, .ref x0), (1, .ref x1), (2, .ref x2), (3, .int (x3 + 6))]) rfl (by decide) (by decide) rfl rfl rfl dL_law_1605 ?_
        refine go_goto (pc := 1608) (tgt := 18) dL_law_1608 (by decide) ?_
        exact go_weak (A' := [(0, .ref x0), (1, .ref x1), (2, .ref x2), (3, .int (x3 + 6))]) (B' := []) ⟨rfl, rfl, rfl, rfl, trivial⟩ rfl (fun q h => by cases h) (ih (x3 + 6) u5)
      · refine go_if (fun h2 => ?_) (fun h2 => ?_)
        · refine go_tableIn (pc := 33) (tgt := 220) 0 h2 dL_law_33 (by decide) (by decide) rfl (by decide) ?_
          refine go_aload_n (pc := 220) (j := 1) (i := 1) dL_law_220 rfl rfl ?_
          refine go_aload_n (pc := 221) (j := 0) (i := 0) dL_law_221 rfl rfl ?_
          refine go_iload_n (pc := 222) (j := 3) (i := 3) dL_law_222 rfl rfl ?_
          refine go_iconst (pc := 223) (v := 1) dL_law_223 (by decide) ?_
          refine go_iadd (pc := 224) dL_law_224 ?_
          refine go_sald (pc := 225) t_x0 dL_law_225 ?_
          refine go_aload_n (pc := 226) (j := 0) (i := 0) dL_law_226 rfl rfl ?_
          refine go_iload_n (pc := 227) (j := 3) (i := 3) dL_law_227 rfl rfl ?_
          refine go_iconst (pc := 228) (v := 2) dL_law_228 (by decide) ?_
          refine go_iadd (pc := 229) dL_law_229 ?_
          refine go_sald (pc := 230) t_x0 dL_law_230 ?_
          refine go_aload_n (pc := 231) (j := 0) (i := 0) dL_law_231 rfl rfl ?_
          refine go_iload_n (pc := 232) (j := 3) (i := 3) dL_law_232 rfl rfl ?_
          refine go_iconst (pc := 233) (v := 3) dL_law_233 (by decide) ?_
          refine go_iadd (pc := 234) dL_law_234 ?_
          refine go_sald (pc := 235) t_x0 dL_law_235 ?_
          refine go_callVI (pc := 236) (ci := 0) (ct_X0_village x1 (mI u x0 (xN (x3 + 1))) (mI u x0 (xN (x3 + 2))) (mI u x0 (xN (x3 + 3))) t_x1) lk_L_13 rfl rfl rfl (by decide) t_x1 ⟨by decide, by decide⟩ (Nat.le_of_ble_eq_true rfl) dL_law_236 rfl fun v3 u6 => ?_
          refine go_aload_n (pc := 239) (j := 2) (i := 2) dL_law_239 rfl rfl ?_
          refine go_aload_n (pc := 240) (j := 0) (i := 0) dL_law_240 rfl rfl ?_
          refine go_iload_n (pc := 241) (j := 3) (i := 3) dL_law_241 rfl rfl ?_
          refine go_iconst (pc := 242) (v := 1) dL_law_242 (by decide) ?_
          refine go_iadd (pc := 243) dL_law_243 ?_
          refine go_sald (pc := 244) t_x0 dL_law_244 ?_
          refine go_aload_n (pc := 245) (j := 0) (i := 0) dL_law_245 rfl rfl ?_
          refine go_iload_n (pc := 246) (j := 3) (i := 3) dL_law_246 rfl rfl ?_
          refine go_iconst (pc := 247) (v := 2) dL_law_247 (by decide) ?_
          refine go_iadd (pc := 248) dL_law_248 ?_
          refine go_sald (pc := 249) t_x0 dL_law_249 ?_
          refine go_aload_n (pc := 250) (j := 0) (i := 0) dL_law_250 rfl rfl ?_
          refine go_iload_n (pc := 251) (j := 3) (i := 3) dL_law_251 rfl rfl ?_
          refine go_iconst (pc := 252) (v := 3) dL_law_252 (by decide) ?_
          refine go_iadd (pc := 253) dL_law_253 ?_
          refine go_sald (pc := 254) t_x0 dL_law_254 ?_
          refine go_callVI (pc := 255) (ci := 3) (ct_X3_village x2 (mI u6 x0 (xN (x3 + 1))) (mI u6 x0 (xN (x3 + 2))) (mI u6 x0 (xN (x3 + 3))) t_x2) lk_L_17 rfl rfl rfl (by decide) t_x2 ⟨by decide, by decide⟩ (Nat.le_of_ble_eq_true rfl) dL_law_255 rfl fun v4 u7 => ?_
          refine go_icmp_eq (pc := 258) (tgt := 1605) dL_law_258 (by decide) (fun h3 => ?_) (fun h3 => ?_)
          · exact go_weak (A' := [(0, .ref x0), (1, .ref x1), (2, .ref x2), (3, .int x3)]) (B' := []) ⟨rfl, rfl, rfl, rfl, trivial⟩ rfl (fun q h => by cases h) (hj1 u7 trivial)
          · refine go_iconst (pc := 261) (v := 0) dL_law_261 (by decide) ?_
            exact go_zreturn (pc := 262) rfl dL_law_262
        refine go_if (fun h4 => ?_) (fun h4 => ?_)
        · refine go_tableIn (pc := 33) (tgt := 263) 1 h4 dL_law_33 (by decide) (by decide) rfl (by decide) ?_
          refine go_aload_n (pc := 263) (j := 1) (i := 1) dL_law_263 rfl rfl ?_
          refine go_aload_n (pc := 264) (j := 0) (i := 0) dL_law_264 rfl rfl ?_
          refine go_iload_n (pc := 265) (j := 3) (i := 3) dL_law_265 rfl rfl ?_
          refine go_iconst (pc := 266) (v := 1) dL_law_266 (by decide) ?_
          refine go_iadd (pc := 267) dL_law_267 ?_
          refine go_sald (pc := 268) t_x0 dL_law_268 ?_
          refine go_aload_n (pc := 269) (j := 0) (i := 0) dL_law_269 rfl rfl ?_
          refine go_iload_n (pc := 270) (j := 3) (i := 3) dL_law_270 rfl rfl ?_
          refine go_iconst (pc := 271) (v := 2) dL_law_271 (by decide) ?_
          refine go_iadd (pc := 272) dL_law_272 ?_
          refine go_sald (pc := 273) t_x0 dL_law_273 ?_
          refine go_aload_n (pc := 274) (j := 0) (i := 0) dL_law_274 rfl rfl ?_
          refine go_iload_n (pc := 275) (j := 3) (i := 3) dL_law_275 rfl rfl ?_
          refine go_iconst (pc := 276) (v := 3) dL_law_276 (by decide) ?_
          refine go_iadd (pc := 277) dL_law_277 ?_
          refine go_sald (pc := 278) t_x0 dL_law_278 ?_
          refine go_callVI (pc := 279) (ci := 0) (ct_X0_road x1 (mI u x0 (xN (x3 + 1))) (mI u x0 (xN (x3 + 2))) (mI u x0 (xN (x3 + 3))) t_x1) lk_L_18 rfl rfl rfl (by decide) t_x1 ⟨by decide, by decide⟩ (Nat.le_of_ble_eq_true rfl) dL_law_279 rfl fun v5 u8 => ?_
          refine go_aload_n (pc := 282) (j := 2) (i := 2) dL_law_282 rfl rfl ?_
          refine go_aload_n (pc := 283) (j := 0) (i := 0) dL_law_283 rfl rfl ?_
          refine go_iload_n (pc := 284) (j := 3) (i := 3) dL_law_284 rfl rfl ?_
          refine go_iconst (pc := 285) (v := 1) dL_law_285 (by decide) ?_
          refine go_iadd (pc := 286) dL_law_286 ?_
          refine go_sald (pc := 287) t_x0 dL_law_287 ?_
          refine go_aload_n (pc := 288) (j := 0) (i := 0) dL_law_288 rfl rfl ?_
          refine go_iload_n (pc := 289) (j := 3) (i := 3) dL_law_289 rfl rfl ?_
          refine go_iconst (pc := 290) (v := 2) dL_law_290 (by decide) ?_
          refine go_iadd (pc := 291) dL_law_291 ?_
          refine go_sald (pc := 292) t_x0 dL_law_292 ?_
          refine go_aload_n (pc := 293) (j := 0) (i := 0) dL_law_293 rfl rfl ?_
          refine go_iload_n (pc := 294) (j := 3) (i := 3) dL_law_294 rfl rfl ?_
          refine go_iconst (pc := 295) (v := 3) dL_law_295 (by decide) ?_
          refine go_iadd (pc := 296) dL_law_296 ?_
          refine go_sald (pc := 297) t_x0 dL_law_297 ?_
          refine go_callVI (pc := 298) (ci := 3) (ct_X3_road x2 (mI u8 x0 (xN (x3 + 1))) (mI u8 x0 (xN (x3 + 2))) (mI u8 x0 (xN (x3 + 3))) t_x2) lk_L_22 rfl rfl rfl (by decide) t_x2 ⟨by decide, by decide⟩ (Nat.le_of_ble_eq_true rfl) dL_law_298 rfl fun v6 u9 => ?_
          refine go_icmp_eq (pc := 301) (tgt := 1605) dL_law_301 (by decide) (fun h5 => ?_) (fun h5 => ?_)
          · exact go_weak (A' := [(0, .ref x0), (1, .ref x1), (2, .ref x2), (3, .int x3)]) (B' := []) ⟨rfl, rfl, rfl, rfl, trivial⟩ rfl (fun q h => by cases h) (hj1 u9 trivial)
          · refine go_iconst (pc := 304) (v := 0) dL_law_304 (by decide) ?_
            exact go_zreturn (pc := 305) rfl dL_law_305
        refine go_if (fun h6 => ?_) (fun h6 => ?_)
        · refine go_tableIn (pc := 33) (tgt := 306) 2 h6 dL_law_33 (by decide) (by decide) rfl (by decide) ?_
          refine go_aload_n (pc := 306) (j := 1) (i := 1) dL_law_306 rfl rfl ?_
          refine go_aload_n (pc := 307) (j := 0) (i := 0) dL_law_307 rfl rfl ?_
          refine go_iload_n (pc := 308) (j := 3) (i := 3) dL_law_308 rfl rfl ?_
          refine go_iconst (pc := 309) (v := 1) dL_law_309 (by decide) ?_
          refine go_iadd (pc := 310) dL_law_310 ?_
          refine go_sald (pc := 311) t_x0 dL_law_311 ?_
          refine go_aload_n (pc := 312) (j := 0) (i := 0) dL_law_312 rfl rfl ?_
          refine go_iload_n (pc := 313) (j := 3) (i := 3) dL_law_313 rfl rfl ?_
          refine go_iconst (pc := 314) (v := 2) dL_law_314 (by decide) ?_
          refine go_iadd (pc := 315) dL_law_315 ?_
          refine go_sald (pc := 316) t_x0 dL_law_316 ?_
          refine go_callVI (pc := 317) (ci := 0) (ct_X0_far x1 (mI u x0 (xN (x3 + 1))) (mI u x0 (xN (x3 + 2))) t_x1) lk_L_23 rfl rfl rfl (by decide) t_x1 ⟨by decide, by decide⟩ (Nat.le_of_ble_eq_true rfl) dL_law_317 rfl fun v7 u10 => ?_
          refine go_aload_n (pc := 320) (j := 2) (i := 2) dL_law_320 rfl rfl ?_
          refine go_aload_n (pc := 321) (j := 0) (i := 0) dL_law_321 rfl rfl ?_
          refine go_iload_n (pc := 322) (j := 3) (i := 3) dL_law_322 rfl rfl ?_
          refine go_iconst (pc := 323) (v := 1) dL_law_323 (by decide) ?_
          refine go_iadd (pc := 324) dL_law_324 ?_
          refine go_sald (pc := 325) t_x0 dL_law_325 ?_
          refine go_aload_n (pc := 326) (j := 0) (i := 0) dL_law_326 rfl rfl ?_
          refine go_iload_n (pc := 327) (j := 3) (i := 3) dL_law_327 rfl rfl ?_
          refine go_iconst (pc := 328) (v := 2) dL_law_328 (by decide) ?_
          refine go_iadd (pc := 329) dL_law_329 ?_
          refine go_sald (pc := 330) t_x0 dL_law_330 ?_
          refine go_callVI (pc := 331) (ci := 3) (ct_X3_far x2 (mI u10 x0 (xN (x3 + 1))) (mI u10 x0 (xN (x3 + 2))) t_x2) lk_L_27 rfl rfl rfl (by decide) t_x2 ⟨by decide, by decide⟩ (Nat.le_of_ble_eq_true rfl) dL_law_331 rfl fun v8 u11 => ?_
          refine go_icmp_eq (pc := 334) (tgt := 1605) dL_law_334 (by decide) (fun h7 => ?_) (fun h7 => ?_)
          · exact go_weak (A' := [(0, .ref x0), (1, .ref x1), (2, .ref x2), (3, .int x3)]) (B' := []) ⟨rfl, rfl, rfl, rfl, trivial⟩ rfl (fun q h => by cases h) (hj1 u11 trivial)
          · refine go_iconst (pc := 337) (v := 0) dL_law_337 (by decide) ?_
            exact go_zreturn (pc := 338) rfl dL_law_338
        refine go_if (fun h8 => ?_) (fun h8 => ?_)
        · refine go_tableIn (pc := 33) (tgt := 339) 3 h8 dL_law_33 (by decide) (by decide) rfl (by decide) ?_
          refine go_aload_n (pc := 339) (j := 1) (i := 1) dL_law_339 rfl rfl ?_
          refine go_aload_n (pc := 340) (j := 0) (i := 0) dL_law_340 rfl rfl ?_
          refine go_iload_n (pc := 341) (j := 3) (i := 3) dL_law_341 rfl rfl ?_
          refine go_iconst (pc := 342) (v := 1) dL_law_342 (by decide) ?_
          refine go_iadd (pc := 343) dL_law_343 ?_
          refine go_sald (pc := 344) t_x0 dL_law_344 ?_
          refine go_aload_n (pc := 345) (j := 0) (i := 0) dL_law_345 rfl rfl ?_
          refine go_iload_n (pc := 346) (j := 3) (i := 3) dL_law_346 rfl rfl ?_
          refine go_iconst (pc := 347) (v := 2) dL_law_347 (by decide) ?_
          refine go_iadd (pc := 348) dL_law_348 ?_
          refine go_sald (pc := 349) t_x0 dL_law_349 ?_
          refine go_callVI (pc := 350) (ci := 0) (ct_X0_house x1 (mI u x0 (xN (x3 + 1))) (mI u x0 (xN (x3 + 2))) t_x1) lk_L_28 rfl rfl rfl (by decide) t_x1 ⟨by decide, by decide⟩ (Nat.le_of_ble_eq_true rfl) dL_law_350 rfl fun v9 u12 => ?_
          refine go_aload_n (pc := 353) (j := 2) (i := 2) dL_law_353 rfl rfl ?_
          refine go_aload_n (pc := 354) (j := 0) (i := 0) dL_law_354 rfl rfl ?_
          refine go_iload_n (pc := 355) (j := 3) (i := 3) dL_law_355 rfl rfl ?_
          refine go_iconst (pc := 356) (v := 1) dL_law_356 (by decide) ?_
          refine go_iadd (pc := 357) dL_law_357 ?_
          refine go_sald (pc := 358) t_x0 dL_law_358 ?_
          refine go_aload_n (pc := 359) (j := 0) (i := 0) dL_law_359 rfl rfl ?_
          refine go_iload_n (pc := 360) (j := 3) (i := 3) dL_law_360 rfl rfl ?_
          refine go_iconst (pc := 361) (v := 2) dL_law_361 (by decide) ?_
          refine go_iadd (pc := 362) dL_law_362 ?_
          refine go_sald (pc := 363) t_x0 dL_law_363 ?_
          refine go_callVI (pc := 364) (ci := 3) (ct_X3_house x2 (mI u12 x0 (xN (x3 + 1))) (mI u12 x0 (xN (x3 + 2))) t_x2) lk_L_31 rfl rfl rfl (by decide) t_x2 ⟨by decide, by decide⟩ (Nat.le_of_ble_eq_true rfl) dL_law_364 rfl fun v10 u13 => ?_
          refine go_icmp_eq (pc := 367) (tgt := 1605) dL_law_367 (by decide) (fun h9 => ?_) (fun h9 => ?_)
          · exact go_weak (A' := [(0, .ref x0), (1, .ref x1), (2, .ref x2), (3, .int x3)]) (B' := []) ⟨rfl, rfl, rfl, rfl, trivial⟩ rfl (fun q h => by cases h) (hj1 u13 trivial)
          · refine go_iconst (pc := 370) (v := 0) dL_law_370 (by decide) ?_
            exact go_zreturn (pc := 371) rfl dL_law_371
        refine go_if (fun h10 => ?_) (fun h10 => ?_)
        · refine go_tableIn (pc := 33) (tgt := 372) 4 h10 dL_law_33 (by decide) (by decide) rfl (by decide) ?_
          refine go_aload_n (pc := 372) (j := 1) (i := 1) dL_law_372 rfl rfl ?_
          refine go_aload_n (pc := 373) (j := 0) (i := 0) dL_law_373 rfl rfl ?_
          refine go_iload_n (pc := 374) (j := 3) (i := 3) dL_law_374 rfl rfl ?_
          refine go_iconst (pc := 375) (v := 1) dL_law_375 (by decide) ?_
          refine go_iadd (pc := 376) dL_law_376 ?_
          refine go_sald (pc := 377) t_x0 dL_law_377 ?_
          refine go_aload_n (pc := 378) (j := 0) (i := 0) dL_law_378 rfl rfl ?_
          refine go_iload_n (pc := 379) (j := 3) (i := 3) dL_law_379 rfl rfl ?_
          refine go_iconst (pc := 380) (v := 2) dL_law_380 (by decide) ?_
          refine go_iadd (pc := 381) dL_law_381 ?_
          refine go_sald (pc := 382) t_x0 dL_law_382 ?_
          refine go_aload_n (pc := 383) (j := 0) (i := 0) dL_law_383 rfl rfl ?_
          refine go_iload_n (pc := 384) (j := 3) (i := 3) dL_law_384 rfl rfl ?_
          refine go_iconst (pc := 385) (v := 3) dL_law_385 (by decide) ?_
          refine go_iadd (pc := 386) dL_law_386 ?_
          refine go_sald (pc := 387) t_x0 dL_law_387 ?_
          refine go_callVI (pc := 388) (ci := 0) (ct_X0_loom x1 (mI u x0 (xN (x3 + 1))) (mI u x0 (xN (x3 + 2))) (mI u x0 (xN (x3 + 3))) t_x1) lk_L_32 rfl rfl rfl (by decide) t_x1 ⟨by decide, by decide⟩ (Nat.le_of_ble_eq_true rfl) dL_law_388 rfl fun v11 u14 => ?_
          refine go_aload_n (pc := 391) (j := 2) (i := 2) dL_law_391 rfl rfl ?_
          refine go_aload_n (pc := 392) (j := 0) (i := 0) dL_law_392 rfl rfl ?_
          refine go_iload_n (pc := 393) (j := 3) (i := 3) dL_law_393 rfl rfl ?_
          refine go_iconst (pc := 394) (v := 1) dL_law_394 (by decide) ?_
          refine go_iadd (pc := 395) dL_law_395 ?_
          refine go_sald (pc := 396) t_x0 dL_law_396 ?_
          refine go_aload_n (pc := 397) (j := 0) (i := 0) dL_law_397 rfl rfl ?_
          refine go_iload_n (pc := 398) (j := 3) (i := 3) dL_law_398 rfl rfl ?_
          refine go_iconst (pc := 399) (v := 2) dL_law_399 (by decide) ?_
          refine go_iadd (pc := 400) dL_law_400 ?_
          refine go_sald (pc := 401) t_x0 dL_law_401 ?_
          refine go_aload_n (pc := 402) (j := 0) (i := 0) dL_law_402 rfl rfl ?_
          refine go_iload_n (pc := 403) (j := 3) (i := 3) dL_law_403 rfl rfl ?_
          refine go_iconst (pc := 404) (v := 3) dL_law_404 (by decide) ?_
          refine go_iadd (pc := 405) dL_law_405 ?_
          refine go_sald (pc := 406) t_x0 dL_law_406 ?_
          refine go_callVI (pc := 407) (ci := 3) (ct_X3_loom x2 (mI u14 x0 (xN (x3 + 1))) (mI u14 x0 (xN (x3 + 2))) (mI u14 x0 (xN (x3 + 3))) t_x2) lk_L_35 rfl rfl rfl (by decide) t_x2 ⟨by decide, by decide⟩ (Nat.le_of_ble_eq_true rfl) dL_law_407 rfl fun v12 u15 => ?_
          refine go_icmp_eq (pc := 410) (tgt := 1605) dL_law_410 (by decide) (fun h11 => ?_) (fun h11 => ?_)
          · exact go_weak (A' := [(0, .ref x0), (1, .ref x1), (2, .ref x2), (3, .int x3)]) (B' := []) ⟨rfl, rfl, rfl, rfl, trivial⟩ rfl (fun q h => by cases h) (hj1 u15 trivial)
          · refine go_iconst (pc := 413) (v := 0) dL_law_413 (by decide) ?_
            exact go_zreturn (pc := 414) rfl dL_law_414
        refine go_if (fun h12 => ?_) (fun h12 => ?_)
        · refine go_tableIn (pc := 33) (tgt := 415) 5 h12 dL_law_33 (by decide) (by decide) rfl (by decide) ?_
          refine go_aload_n (pc := 415) (j := 1) (i := 1) dL_law_415 rfl rfl ?_
          refine go_aload_n (pc := 416) (j := 0) (i := 0) dL_law_416 rfl rfl ?_
          refine go_iload_n (pc := 417) (j := 3) (i := 3) dL_law_417 rfl rfl ?_
          refine go_iconst (pc := 418) (v := 1) dL_law_418 (by decide) ?_
          refine go_iadd (pc := 419) dL_law_419 ?_
          refine go_sald (pc := 420) t_x0 dL_law_420 ?_
          refine go_aload_n (pc := 421) (j := 0) (i := 0) dL_law_421 rfl rfl ?_
          refine go_iload_n (pc := 422) (j := 3) (i := 3) dL_law_422 rfl rfl ?_
          refine go_iconst (pc := 423) (v := 2) dL_law_423 (by decide) ?_
          refine go_iadd (pc := 424) dL_law_424 ?_
          refine go_sald (pc := 425) t_x0 dL_law_425 ?_
          refine go_callVI (pc := 426) (ci := 0) (ct_X0_aim x1 (mI u x0 (xN (x3 + 1))) (mI u x0 (xN (x3 + 2))) t_x1) lk_L_36 rfl rfl rfl (by decide) t_x1 ⟨by decide, by decide⟩ (Nat.le_of_ble_eq_true rfl) dL_law_426 rfl fun v13 u16 => ?_
          refine go_aload_n (pc := 429) (j := 2) (i := 2) dL_law_429 rfl rfl ?_
          refine go_aload_n (pc := 430) (j := 0) (i := 0) dL_law_430 rfl rfl ?_
          refine go_iload_n (pc := 431) (j := 3) (i := 3) dL_law_431 rfl rfl ?_
          refine go_iconst (pc := 432) (v := 1) dL_law_432 (by decide) ?_
          refine go_iadd (pc := 433) dL_law_433 ?_
          refine go_sald (pc := 434) t_x0 dL_law_434 ?_
          refine go_aload_n (pc := 435) (j := 0) (i := 0) dL_law_435 rfl rfl ?_
          refine go_iload_n (pc := 436) (j := 3) (i := 3) dL_law_436 rfl rfl ?_
          refine go_iconst (pc := 437) (v := 2) dL_law_437 (by decide) ?_
          refine go_iadd (pc := 438) dL_law_438 ?_
          refine go_sald (pc := 439) t_x0 dL_law_439 ?_
          refine go_callVI (pc := 440) (ci := 3) (ct_X3_aim x2 (mI u16 x0 (xN (x3 + 1))) (mI u16 x0 (xN (x3 + 2))) t_x2) lk_L_40 rfl rfl rfl (by decide) t_x2 ⟨by decide, by decide⟩ (Nat.le_of_ble_eq_true rfl) dL_law_440 rfl fun v14 u17 => ?_
          refine go_icmp_eq (pc := 443) (tgt := 1605) dL_law_443 (by decide) (fun h13 => ?_) (fun h13 => ?_)
          · exact go_weak (A' := [(0, .ref x0), (1, .ref x1), (2, .ref x2), (3, .int x3)]) (B' := []) ⟨rfl, rfl, rfl, rfl, trivial⟩ rfl (fun q h => by cases h) (hj1 u17 trivial)
          · refine go_iconst (pc := 446) (v := 0) dL_law_446 (by decide) ?_
            exact go_zreturn (pc := 447) rfl dL_law_447
        refine go_if (fun h14 => ?_) (fun h14 => ?_)
        · refine go_tableIn (pc := 33) (tgt := 448) 6 h14 dL_law_33 (by decide) (by decide) rfl (by decide) ?_
          refine go_aload_n (pc := 448) (j := 1) (i := 1) dL_law_448 rfl rfl ?_
          refine go_aload_n (pc := 449) (j := 0) (i := 0) dL_law_449 rfl rfl ?_
          refine go_iload_n (pc := 450) (j := 3) (i := 3) dL_law_450 rfl rfl ?_
          refine go_iconst (pc := 451) (v := 1) dL_law_451 (by decide) ?_
          refine go_iadd (pc := 452) dL_law_452 ?_
          refine go_sald (pc := 453) t_x0 dL_law_453 ?_
          refine go_aload_n (pc := 454) (j := 0) (i := 0) dL_law_454 rfl rfl ?_
          refine go_iload_n (pc := 455) (j := 3) (i := 3) dL_law_455 rfl rfl ?_
          refine go_iconst (pc := 456) (v := 2) dL_law_456 (by decide) ?_
          refine go_iadd (pc := 457) dL_law_457 ?_
          refine go_sald (pc := 458) t_x0 dL_law_458 ?_
          refine go_callVI (pc := 459) (ci := 0) (ct_X0_coins x1 (mI u x0 (xN (x3 + 1))) (mI u x0 (xN (x3 + 2))) t_x1) lk_L_41 rfl rfl rfl (by decide) t_x1 ⟨by decide, by decide⟩ (Nat.le_of_ble_eq_true rfl) dL_law_459 rfl fun v15 u18 => ?_
          refine go_aload_n (pc := 462) (j := 2) (i := 2) dL_law_462 rfl rfl ?_
          refine go_aload_n (pc := 463) (j := 0) (i := 0) dL_law_463 rfl rfl ?_
          refine go_iload_n (pc := 464) (j := 3) (i := 3) dL_law_464 rfl rfl ?_
          refine go_iconst (pc := 465) (v := 1) dL_law_465 (by decide) ?_
          refine go_iadd (pc := 466) dL_law_466 ?_
          refine go_sald (pc := 467) t_x0 dL_law_467 ?_
          refine go_aload_n (pc := 468) (j := 0) (i := 0) dL_law_468 rfl rfl ?_
          refine go_iload_n (pc := 469) (j := 3) (i := 3) dL_law_469 rfl rfl ?_
          refine go_iconst (pc := 470) (v := 2) dL_law_470 (by decide) ?_
          refine go_iadd (pc := 471) dL_law_471 ?_
          refine go_sald (pc := 472) t_x0 dL_law_472 ?_
          refine go_callVI (pc := 473) (ci := 3) (ct_X3_coins x2 (mI u18 x0 (xN (x3 + 1))) (mI u18 x0 (xN (x3 + 2))) t_x2) lk_L_44 rfl rfl rfl (by decide) t_x2 ⟨by decide, by decide⟩ (Nat.le_of_ble_eq_true rfl) dL_law_473 rfl fun v16 u19 => ?_
          refine go_icmp_eq (pc := 476) (tgt := 1605) dL_law_476 (by decide) (fun h15 => ?_) (fun h15 => ?_)
          · exact go_weak (A' := [(0, .ref x0), (1, .ref x1), (2, .ref x2), (3, .int x3)]) (B' := []) ⟨rfl, rfl, rfl, rfl, trivial⟩ rfl (fun q h => by cases h) (hj1 u19 trivial)
          · refine go_iconst (pc := 479) (v := 0) dL_law_479 (by decide) ?_
            exact go_zreturn (pc := 480) rfl dL_law_480
        refine go_if (fun h16 => ?_) (fun h16 => ?_)
        · refine go_tableIn (pc := 33) (tgt := 481) 7 h16 dL_law_33 (by decide) (by decide) rfl (by decide) ?_
          refine go_aload_n (pc := 481) (j := 1) (i := 1) dL_law_481 rfl rfl ?_
          refine go_aload_n (pc := 482) (j := 0) (i := 0) dL_law_482 rfl rfl ?_
          refine go_iload_n (pc := 483) (j := 3) (i := 3) dL_law_483 rfl rfl ?_
          refine go_iconst (pc := 484) (v := 1) dL_law_484 (by decide) ?_
          refine go_iadd (pc := 485) dL_law_485 ?_
          refine go_sald (pc := 486) t_x0 dL_law_486 ?_
          refine go_aload_n (pc := 487) (j := 0) (i := 0) dL_law_487 rfl rfl ?_
          refine go_iload_n (pc := 488) (j := 3) (i := 3) dL_law_488 rfl rfl ?_
          refine go_iconst (pc := 489) (v := 2) dL_law_489 (by decide) ?_
          refine go_iadd (pc := 490) dL_law_490 ?_
          refine go_sald (pc := 491) t_x0 dL_law_491 ?_
          refine go_callVI (pc := 492) (ci := 0) (ct_X0_cotton x1 (mI u x0 (xN (x3 + 1))) (mI u x0 (xN (x3 + 2))) t_x1) lk_L_45 rfl rfl rfl (by decide) t_x1 ⟨by decide, by decide⟩ (Nat.le_of_ble_eq_true rfl) dL_law_492 rfl fun v17 u20 => ?_
          refine go_aload_n (pc := 495) (j := 2) (i := 2) dL_law_495 rfl rfl ?_
          refine go_aload_n (pc := 496) (j := 0) (i := 0) dL_law_496 rfl rfl ?_
          refine go_iload_n (pc := 497) (j := 3) (i := 3) dL_law_497 rfl rfl ?_
          refine go_iconst (pc := 498) (v := 1) dL_law_498 (by decide) ?_
          refine go_iadd (pc := 499) dL_law_499 ?_
          refine go_sald (pc := 500) t_x0 dL_law_500 ?_
          refine go_aload_n (pc := 501) (j := 0) (i := 0) dL_law_501 rfl rfl ?_
          refine go_iload_n (pc := 502) (j := 3) (i := 3) dL_law_502 rfl rfl ?_
          refine go_iconst (pc := 503) (v := 2) dL_law_503 (by decide) ?_
          refine go_iadd (pc := 504) dL_law_504 ?_
          refine go_sald (pc := 505) t_x0 dL_law_505 ?_
          refine go_callVI (pc := 506) (ci := 3) (ct_X3_cotton x2 (mI u20 x0 (xN (x3 + 1))) (mI u20 x0 (xN (x3 + 2))) t_x2) lk_L_48 rfl rfl rfl (by decide) t_x2 ⟨by decide, by decide⟩ (Nat.le_of_ble_eq_true rfl) dL_law_506 rfl fun v18 u21 => ?_
          refine go_icmp_eq (pc := 509) (tgt := 1605) dL_law_509 (by decide) (fun h17 => ?_) (fun h17 => ?_)
          · exact go_weak (A' := [(0, .ref x0), (1, .ref x1), (2, .ref x2), (3, .int x3)]) (B' := []) ⟨rfl, rfl, rfl, rfl, trivial⟩ rfl (fun q h => by cases h) (hj1 u21 trivial)
          · refine go_iconst (pc := 512) (v := 0) dL_law_512 (by decide) ?_
            exact go_zreturn (pc := 513) rfl dL_law_513
        refine go_if (fun h18 => ?_) (fun h18 => ?_)
        · refine go_tableIn (pc := 33) (tgt := 514) 8 h18 dL_law_33 (by decide) (by decide) rfl (by decide) ?_
          refine go_aload_n (pc := 514) (j := 1) (i := 1) dL_law_514 rfl rfl ?_
          refine go_aload_n (pc := 515) (j := 0) (i := 0) dL_law_515 rfl rfl ?_
          refine go_iload_n (pc := 516) (j := 3) (i := 3) dL_law_516 rfl rfl ?_
          refine go_iconst (pc := 517) (v := 1) dL_law_517 (by decide) ?_
          refine go_iadd (pc := 518) dL_law_518 ?_
          refine go_sald (pc := 519) t_x0 dL_law_519 ?_
          refine go_callVI (pc := 520) (ci := 0) (ct_X0_go x1 (mI u x0 (xN (x3 + 1))) t_x1) lk_L_49 rfl rfl rfl (by decide) t_x1 ⟨by decide, by decide⟩ (Nat.le_of_ble_eq_true rfl) dL_law_520 rfl fun v19 u22 => ?_
          refine go_aload_n (pc := 523) (j := 2) (i := 2) dL_law_523 rfl rfl ?_
          refine go_aload_n (pc := 524) (j := 0) (i := 0) dL_law_524 rfl rfl ?_
          refine go_iload_n (pc := 525) (j := 3) (i := 3) dL_law_525 rfl rfl ?_
          refine go_iconst (pc := 526) (v := 1) dL_law_526 (by decide) ?_
          refine go_iadd (pc := 527) dL_law_527 ?_
          refine go_sald (pc := 528) t_x0 dL_law_528 ?_
          refine go_callVI (pc := 529) (ci := 3) (ct_X3_go x2 (mI u22 x0 (xN (x3 + 1))) t_x2) lk_L_53 rfl rfl rfl (by decide) t_x2 ⟨by decide, by decide⟩ (Nat.le_of_ble_eq_true rfl) dL_law_529 rfl fun v20 u23 => ?_
          refine go_icmp_eq (pc := 532) (tgt := 1605) dL_law_532 (by decide) (fun h19 => ?_) (fun h19 => ?_)
          · exact go_weak (A' := [(0, .ref x0), (1, .ref x1), (2, .ref x2), (3, .int x3)]) (B' := []) ⟨rfl, rfl, rfl, rfl, trivial⟩ rfl (fun q h => by cases h) (hj1 u23 trivial)
          · refine go_iconst (pc := 535) (v := 0) dL_law_535 (by decide) ?_
            exact go_zreturn (pc := 536) rfl dL_law_536
        refine go_if (fun h20 => ?_) (fun h20 => ?_)
        · refine go_tableIn (pc := 33) (tgt := 537) 9 h20 dL_law_33 (by decide) (by decide) rfl (by decide) ?_
          refine go_aload_n (pc := 537) (j := 1) (i := 1) dL_law_537 rfl rfl ?_
          refine go_aload_n (pc := 538) (j := 0) (i := 0) dL_law_538 rfl rfl ?_
          refine go_iload_n (pc := 539) (j := 3) (i := 3) dL_law_539 rfl rfl ?_
          refine go_iconst (pc := 540) (v := 1) dL_law_540 (by decide) ?_
          refine go_iadd (pc := 541) dL_law_541 ?_
          refine go_sald (pc := 542) t_x0 dL_law_542 ?_
          refine go_aload_n (pc := 543) (j := 0) (i := 0) dL_law_543 rfl rfl ?_
          refine go_iload_n (pc := 544) (j := 3) (i := 3) dL_law_544 rfl rfl ?_
          refine go_iconst (pc := 545) (v := 2) dL_law_545 (by decide) ?_
          refine go_iadd (pc := 546) dL_law_546 ?_
          refine go_sald (pc := 547) t_x0 dL_law_547 ?_
          refine go_callVI (pc := 548) (ci := 0) (ct_X0_lot x1 (mI u x0 (xN (x3 + 1))) (mI u x0 (xN (x3 + 2))) t_x1) lk_L_54 rfl rfl rfl (by decide) t_x1 ⟨by decide, by decide⟩ (Nat.le_of_ble_eq_true rfl) dL_law_548 rfl fun v21 u24 => ?_
          refine go_aload_n (pc := 551) (j := 2) (i := 2) dL_law_551 rfl rfl ?_
          refine go_aload_n (pc := 552) (j := 0) (i := 0) dL_law_552 rfl rfl ?_
          refine go_iload_n (pc := 553) (j := 3) (i := 3) dL_law_553 rfl rfl ?_
          refine go_iconst (pc := 554) (v := 1) dL_law_554 (by decide) ?_
          refine go_iadd (pc := 555) dL_law_555 ?_
          refine go_sald (pc := 556) t_x0 dL_law_556 ?_
          refine go_aload_n (pc := 557) (j := 0) (i := 0) dL_law_557 rfl rfl ?_
          refine go_iload_n (pc := 558) (j := 3) (i := 3) dL_law_558 rfl rfl ?_
          refine go_iconst (pc := 559) (v := 2) dL_law_559 (by decide) ?_
          refine go_iadd (pc := 560) dL_law_560 ?_
          refine go_sald (pc := 561) t_x0 dL_law_561 ?_
          refine go_callVI (pc := 562) (ci := 3) (ct_X3_lot x2 (mI u24 x0 (xN (x3 + 1))) (mI u24 x0 (xN (x3 + 2))) t_x2) lk_L_57 rfl rfl rfl (by decide) t_x2 ⟨by decide, by decide⟩ (Nat.le_of_ble_eq_true rfl) dL_law_562 rfl fun v22 u25 => ?_
          refine go_icmp_eq (pc := 565) (tgt := 1605) dL_law_565 (by decide) (fun h21 => ?_) (fun h21 => ?_)
          · exact go_weak (A' := [(0, .ref x0), (1, .ref x1), (2, .ref x2), (3, .int x3)]) (B' := []) ⟨rfl, rfl, rfl, rfl, trivial⟩ rfl (fun q h => by cases h) (hj1 u25 trivial)
          · refine go_iconst (pc := 568) (v := 0) dL_law_568 (by decide) ?_
            exact go_zreturn (pc := 569) rfl dL_law_569
        refine go_if (fun h22 => ?_) (fun h22 => ?_)
        · refine go_tableIn (pc := 33) (tgt := 570) 10 h22 dL_law_33 (by decide) (by decide) rfl (by decide) ?_
          refine go_aload_n (pc := 570) (j := 1) (i := 1) dL_law_570 rfl rfl ?_
          refine go_aload_n (pc := 571) (j := 0) (i := 0) dL_law_571 rfl rfl ?_
          refine go_iload_n (pc := 572) (j := 3) (i := 3) dL_law_572 rfl rfl ?_
          refine go_iconst (pc := 573) (v := 1) dL_law_573 (by decide) ?_
          refine go_iadd (pc := 574) dL_law_574 ?_
          refine go_sald (pc := 575) t_x0 dL_law_575 ?_
          refine go_aload_n (pc := 576) (j := 0) (i := 0) dL_law_576 rfl rfl ?_
          refine go_iload_n (pc := 577) (j := 3) (i := 3) dL_law_577 rfl rfl ?_
          refine go_iconst (pc := 578) (v := 2) dL_law_578 (by decide) ?_
          refine go_iadd (pc := 579) dL_law_579 ?_
          refine go_sald (pc := 580) t_x0 dL_law_580 ?_
          refine go_aload_n (pc := 581) (j := 0) (i := 0) dL_law_581 rfl rfl ?_
          refine go_iload_n (pc := 582) (j := 3) (i := 3) dL_law_582 rfl rfl ?_
          refine go_iconst (pc := 583) (v := 3) dL_law_583 (by decide) ?_
          refine go_iadd (pc := 584) dL_law_584 ?_
          refine go_sald (pc := 585) t_x0 dL_law_585 ?_
          refine go_aload_n (pc := 586) (j := 0) (i := 0) dL_law_586 rfl rfl ?_
          refine go_iload_n (pc := 587) (j := 3) (i := 3) dL_law_587 rfl rfl ?_
          refine go_iconst (pc := 588) (v := 4) dL_law_588 (by decide) ?_
          refine go_iadd (pc := 589) dL_law_589 ?_
          refine go_sald (pc := 590) t_x0 dL_law_590 ?_
          refine go_aload_n (pc := 591) (j := 0) (i := 0) dL_law_591 rfl rfl ?_
          refine go_iload_n (pc := 592) (j := 3) (i := 3) dL_law_592 rfl rfl ?_
          refine go_iconst (pc := 593) (v := 5) dL_law_593 (by decide) ?_
          refine go_iadd (pc := 594) dL_law_594 ?_
          refine go_sald (pc := 595) t_x0 dL_law_595 ?_
          refine go_callVI (pc := 596) (ci := 0) (ct_X0_feed x1 (mI u x0 (xN (x3 + 1))) (mI u x0 (xN (x3 + 2))) (mI u x0 (xN (x3 + 3))) (mI u x0 (xN (x3 + 4))) (mI u x0 (xN (x3 + 5))) t_x1) lk_L_58 rfl rfl rfl (by decide) t_x1 ⟨by decide, by decide⟩ (Nat.le_of_ble_eq_true rfl) dL_law_596 rfl fun v23 u26 => ?_
          refine go_aload_n (pc := 599) (j := 2) (i := 2) dL_law_599 rfl rfl ?_
          refine go_aload_n (pc := 600) (j := 0) (i := 0) dL_law_600 rfl rfl ?_
          refine go_iload_n (pc := 601) (j := 3) (i := 3) dL_law_601 rfl rfl ?_
          refine go_iconst (pc := 602) (v := 1) dL_law_602 (by decide) ?_
          refine go_iadd (pc := 603) dL_law_603 ?_
          refine go_sald (pc := 604) t_x0 dL_law_604 ?_
          refine go_aload_n (pc := 605) (j := 0) (i := 0) dL_law_605 rfl rfl ?_
          refine go_iload_n (pc := 606) (j := 3) (i := 3) dL_law_606 rfl rfl ?_
          refine go_iconst (pc := 607) (v := 2) dL_law_607 (by decide) ?_
          refine go_iadd (pc := 608) dL_law_608 ?_
          refine go_sald (pc := 609) t_x0 dL_law_609 ?_
          refine go_aload_n (pc := 610) (j := 0) (i := 0) dL_law_610 rfl rfl ?_
          refine go_iload_n (pc := 611) (j := 3) (i := 3) dL_law_611 rfl rfl ?_
          refine go_iconst (pc := 612) (v := 3) dL_law_612 (by decide) ?_
          refine go_iadd (pc := 613) dL_law_613 ?_
          refine go_sald (pc := 614) t_x0 dL_law_614 ?_
          refine go_aload_n (pc := 615) (j := 0) (i := 0) dL_law_615 rfl rfl ?_
          refine go_iload_n (pc := 616) (j := 3) (i := 3) dL_law_616 rfl rfl ?_
          refine go_iconst (pc := 617) (v := 4) dL_law_617 (by decide) ?_
          refine go_iadd (pc := 618) dL_law_618 ?_
          refine go_sald (pc := 619) t_x0 dL_law_619 ?_
          refine go_aload_n (pc := 620) (j := 0) (i := 0) dL_law_620 rfl rfl ?_
          refine go_iload_n (pc := 621) (j := 3) (i := 3) dL_law_621 rfl rfl ?_
          refine go_iconst (pc := 622) (v := 5) dL_law_622 (by decide) ?_
          refine go_iadd (pc := 623) dL_law_623 ?_
          refine go_sald (pc := 624) t_x0 dL_law_624 ?_
          refine go_callVI (pc := 625) (ci := 3) (ct_X3_feed x2 (mI u26 x0 (xN (x3 + 1))) (mI u26 x0 (xN (x3 + 2))) (mI u26 x0 (xN (x3 + 3))) (mI u26 x0 (xN (x3 + 4))) (mI u26 x0 (xN (x3 + 5))) t_x2) lk_L_62 rfl rfl rfl (by decide) t_x2 ⟨by decide, by decide⟩ (Nat.le_of_ble_eq_true rfl) dL_law_625 rfl fun v24 u27 => ?_
          refine go_icmp_eq (pc := 628) (tgt := 1605) dL_law_628 (by decide) (fun h23 => ?_) (fun h23 => ?_)
          · exact go_weak (A' := [(0, .ref x0), (1, .ref x1), (2, .ref x2), (3, .int x3)]) (B' := []) ⟨rfl, rfl, rfl, rfl, trivial⟩ rfl (fun q h => by cases h) (hj1 u27 trivial)
          · refine go_iconst (pc := 631) (v := 0) dL_law_631 (by decide) ?_
            exact go_zreturn (pc := 632) rfl dL_law_632
        refine go_if (fun h24 => ?_) (fun h24 => ?_)
        · refine go_tableIn (pc := 33) (tgt := 633) 11 h24 dL_law_33 (by decide) (by decide) rfl (by decide) ?_
          refine go_aload_n (pc := 633) (j := 1) (i := 1) dL_law_633 rfl rfl ?_
          refine go_aload_n (pc := 634) (j := 0) (i := 0) dL_law_634 rfl rfl ?_
          refine go_iload_n (pc := 635) (j := 3) (i := 3) dL_law_635 rfl rfl ?_
          refine go_iconst (pc := 636) (v := 1) dL_law_636 (by decide) ?_
          refine go_iadd (pc := 637) dL_law_637 ?_
          refine go_sald (pc := 638) t_x0 dL_law_638 ?_
          refine go_callVI (pc := 639) (ci := 0) (ct_X0_end x1 (mI u x0 (xN (x3 + 1))) t_x1) lk_L_63 rfl rfl rfl (by decide) t_x1 ⟨by decide, by decide⟩ (Nat.le_of_ble_eq_true rfl) dL_law_639 rfl fun v25 u28 => ?_
          refine go_aload_n (pc := 642) (j := 2) (i := 2) dL_law_642 rfl rfl ?_
          refine go_aload_n (pc := 643) (j := 0) (i := 0) dL_law_643 rfl rfl ?_
          refine go_iload_n (pc := 644) (j := 3) (i := 3) dL_law_644 rfl rfl ?_
          refine go_iconst (pc := 645) (v := 1) dL_law_645 (by decide) ?_
          refine go_iadd (pc := 646) dL_law_646 ?_
          refine go_sald (pc := 647) t_x0 dL_law_647 ?_
          refine go_callVI (pc := 648) (ci := 3) (ct_X3_end x2 (mI u28 x0 (xN (x3 + 1))) t_x2) lk_L_67 rfl rfl rfl (by decide) t_x2 ⟨by decide, by decide⟩ (Nat.le_of_ble_eq_true rfl) dL_law_648 rfl fun v26 u29 => ?_
          refine go_icmp_eq (pc := 651) (tgt := 1605) dL_law_651 (by decide) (fun h25 => ?_) (fun h25 => ?_)
          · exact go_weak (A' := [(0, .ref x0), (1, .ref x1), (2, .ref x2), (3, .int x3)]) (B' := []) ⟨rfl, rfl, rfl, rfl, trivial⟩ rfl (fun q h => by cases h) (hj1 u29 trivial)
          · refine go_iconst (pc := 654) (v := 0) dL_law_654 (by decide) ?_
            exact go_zreturn (pc := 655) rfl dL_law_655
        refine go_if (fun h26 => ?_) (fun h26 => ?_)
        · refine go_tableIn (pc := 33) (tgt := 656) 12 h26 dL_law_33 (by decide) (by decide) rfl (by decide) ?_
          refine go_aload_n (pc := 656) (j := 1) (i := 1) dL_law_656 rfl rfl ?_
          refine go_callVW (pc := 657) (ci := 0) (ct_X0_fault x1 t_x1) lkW_L_68 rfl rfl rfl (by decide) t_x1 ⟨by decide, by decide⟩ (Nat.le_of_ble_eq_true rfl) dL_law_657 rfl fun v27 u30 => ?_
          refine go_aload_n (pc := 660) (j := 2) (i := 2) dL_law_660 rfl rfl ?_
          refine go_callVI (pc := 661) (ci := 3) (ct_X3_fault x2 t_x2) lk_L_72 rfl rfl rfl (by decide) t_x2 ⟨by decide, by decide⟩ (Nat.le_of_ble_eq_true rfl) dL_law_661 rfl fun v28 u31 => ?_
          refine go_icmp_eq (pc := 664) (tgt := 1605) dL_law_664 (by decide) (fun h27 => ?_) (fun h27 => ?_)
          · exact go_weak (A' := [(0, .ref x0), (1, .ref x1), (2, .ref x2), (3, .int x3)]) (B' := []) ⟨rfl, rfl, rfl, rfl, trivial⟩ rfl (fun q h => by cases h) (hj1 u31 trivial)
          · refine go_iconst (pc := 667) (v := 0) dL_law_667 (by decide) ?_
            exact go_zreturn (pc := 668) rfl dL_law_668
        refine go_if (fun h28 => ?_) (fun h28 => ?_)
        · refine go_tableIn (pc := 33) (tgt := 669) 13 h28 dL_law_33 (by decide) (by decide) rfl (by decide) ?_
          refine go_aload_n (pc := 669) (j := 1) (i := 1) dL_law_669 rfl rfl ?_
          refine go_callVW (pc := 670) (ci := 0) (ct_X0_sheet x1 t_x1) lkW_L_73 rfl rfl rfl (by decide) t_x1 ⟨by decide, by decide⟩ (Nat.le_of_ble_eq_true rfl) dL_law_670 rfl fun v29 u32 => ?_
          refine go_aload_n (pc := 673) (j := 2) (i := 2) dL_law_673 rfl rfl ?_
          refine go_callVI (pc := 674) (ci := 3) (ct_X3_sheet x2 t_x2) lk_L_76 rfl rfl rfl (by decide) t_x2 ⟨by decide, by decide⟩ (Nat.le_of_ble_eq_true rfl) dL_law_674 rfl fun v30 u33 => ?_
          refine go_icmp_eq (pc := 677) (tgt := 1605) dL_law_677 (by decide) (fun h29 => ?_) (fun h29 => ?_)
          · exact go_weak (A' := [(0, .ref x0), (1, .ref x1), (2, .ref x2), (3, .int x3)]) (B' := []) ⟨rfl, rfl, rfl, rfl, trivial⟩ rfl (fun q h => by cases h) (hj1 u33 trivial)
          · refine go_iconst (pc := 680) (v := 0) dL_law_680 (by decide) ?_
            exact go_zreturn (pc := 681) rfl dL_law_681
        refine go_if (fun h30 => ?_) (fun h30 => ?_)
        · refine go_tableIn (pc := 33) (tgt := 682) 14 h30 dL_law_33 (by decide) (by decide) rfl (by decide) ?_
          refine go_aload_n (pc := 682) (j := 1) (i := 1) dL_law_682 rfl rfl ?_
          refine go_aload_n (pc := 683) (j := 0) (i := 0) dL_law_683 rfl rfl ?_
          refine go_iload_n (pc := 684) (j := 3) (i := 3) dL_law_684 rfl rfl ?_
          refine go_iconst (pc := 685) (v := 1) dL_law_685 (by decide) ?_
          refine go_iadd (pc := 686) dL_law_686 ?_
          refine go_sald (pc := 687) t_x0 dL_law_687 ?_
          refine go_aload_n (pc := 688) (j := 0) (i := 0) dL_law_688 rfl rfl ?_
          refine go_iload_n (pc := 689) (j := 3) (i := 3) dL_law_689 rfl rfl ?_
          refine go_iconst (pc := 690) (v := 2) dL_law_690 (by decide) ?_
          refine go_iadd (pc := 691) dL_law_691 ?_
          refine go_sald (pc := 692) t_x0 dL_law_692 ?_
          refine go_callVI (pc := 693) (ci := 0) (ct_X0_force x1 (mI u x0 (xN (x3 + 1))) (mI u x0 (xN (x3 + 2))) t_x1) lk_L_77 rfl rfl rfl (by decide) t_x1 ⟨by decide, by decide⟩ (Nat.le_of_ble_eq_true rfl) dL_law_693 rfl fun v31 u34 => ?_
          refine go_aload_n (pc := 696) (j := 2) (i := 2) dL_law_696 rfl rfl ?_
          refine go_aload_n (pc := 697) (j := 0) (i := 0) dL_law_697 rfl rfl ?_
          refine go_iload_n (pc := 698) (j := 3) (i := 3) dL_law_698 rfl rfl ?_
          refine go_iconst (pc := 699) (v := 1) dL_law_699 (by decide) ?_
          refine go_iadd (pc := 700) dL_law_700 ?_
          refine go_sald (pc := 701) t_x0 dL_law_701 ?_
          refine go_aload_n (pc := 702) (j := 0) (i := 0) dL_law_702 rfl rfl ?_
          refine go_iload_n (pc := 703) (j := 3) (i := 3) dL_law_703 rfl rfl ?_
          refine go_iconst (pc := 704) (v := 2) dL_law_704 (by decide) ?_
          refine go_iadd (pc := 705) dL_law_705 ?_
          refine go_sald (pc := 706) t_x0 dL_law_706 ?_
          refine go_callVI (pc := 707) (ci := 3) (ct_X3_force x2 (mI u34 x0 (xN (x3 + 1))) (mI u34 x0 (xN (x3 + 2))) t_x2) lk_L_80 rfl rfl rfl (by decide) t_x2 ⟨by decide, by decide⟩ (Nat.le_of_ble_eq_true rfl) dL_law_707 rfl fun v32 u35 => ?_
          refine go_icmp_eq (pc := 710) (tgt := 1605) dL_law_710 (by decide) (fun h31 => ?_) (fun h31 => ?_)
          · exact go_weak (A' := [(0, .ref x0), (1, .ref x1), (2, .ref x2), (3, .int x3)]) (B' := []) ⟨rfl, rfl, rfl, rfl, trivial⟩ rfl (fun q h => by cases h) (hj1 u35 trivial)
          · refine go_iconst (pc := 713) (v := 0) dL_law_713 (by decide) ?_
            exact go_zreturn (pc := 714) rfl dL_law_714
        refine go_if (fun h32 => ?_) (fun h32 => ?_)
        · refine go_tableIn (pc := 33) (tgt := 715) 15 h32 dL_law_33 (by decide) (by decide) rfl (by decide) ?_
          refine go_aload_n (pc := 715) (j := 1) (i := 1) dL_law_715 rfl rfl ?_
          refine go_aload_n (pc := 716) (j := 0) (i := 0) dL_law_716 rfl rfl ?_
          refine go_iload_n (pc := 717) (j := 3) (i := 3) dL_law_717 rfl rfl ?_
          refine go_iconst (pc := 718) (v := 1) dL_law_718 (by decide) ?_
          refine go_iadd (pc := 719) dL_law_719 ?_
          refine go_sald (pc := 720) t_x0 dL_law_720 ?_
          refine go_aload_n (pc := 721) (j := 0) (i := 0) dL_law_721 rfl rfl ?_
          refine go_iload_n (pc := 722) (j := 3) (i := 3) dL_law_722 rfl rfl ?_
          refine go_iconst (pc := 723) (v := 2) dL_law_723 (by decide) ?_
          refine go_iadd (pc := 724) dL_law_724 ?_
          refine go_sald (pc := 725) t_x0 dL_law_725 ?_
          refine go_callVI (pc := 726) (ci := 0) (ct_X0_why x1 (mI u x0 (xN (x3 + 1))) (mI u x0 (xN (x3 + 2))) t_x1) lk_L_81 rfl rfl rfl (by decide) t_x1 ⟨by decide, by decide⟩ (Nat.le_of_ble_eq_true rfl) dL_law_726 rfl fun v33 u36 => ?_
          refine go_aload_n (pc := 729) (j := 2) (i := 2) dL_law_729 rfl rfl ?_
          refine go_aload_n (pc := 730) (j := 0) (i := 0) dL_law_730 rfl rfl ?_
          refine go_iload_n (pc := 731) (j := 3) (i := 3) dL_law_731 rfl rfl ?_
          refine go_iconst (pc := 732) (v := 1) dL_law_732 (by decide) ?_
          refine go_iadd (pc := 733) dL_law_733 ?_
          refine go_sald (pc := 734) t_x0 dL_law_734 ?_
          refine go_aload_n (pc := 735) (j := 0) (i := 0) dL_law_735 rfl rfl ?_
          refine go_iload_n (pc := 736) (j := 3) (i := 3) dL_law_736 rfl rfl ?_
          refine go_iconst (pc := 737) (v := 2) dL_law_737 (by decide) ?_
          refine go_iadd (pc := 738) dL_law_738 ?_
          refine go_sald (pc := 739) t_x0 dL_law_739 ?_
          refine go_callVI (pc := 740) (ci := 3) (ct_X3_why x2 (mI u36 x0 (xN (x3 + 1))) (mI u36 x0 (xN (x3 + 2))) t_x2) lk_L_84 rfl rfl rfl (by decide) t_x2 ⟨by decide, by decide⟩ (Nat.le_of_ble_eq_true rfl) dL_law_740 rfl fun v34 u37 => ?_
          refine go_icmp_eq (pc := 743) (tgt := 1605) dL_law_743 (by decide) (fun h33 => ?_) (fun h33 => ?_)
          · exact go_weak (A' := [(0, .ref x0), (1, .ref x1), (2, .ref x2), (3, .int x3)]) (B' := []) ⟨rfl, rfl, rfl, rfl, trivial⟩ rfl (fun q h => by cases h) (hj1 u37 trivial)
          · refine go_iconst (pc := 746) (v := 0) dL_law_746 (by decide) ?_
            exact go_zreturn (pc := 747) rfl dL_law_747
        refine go_if (fun h34 => ?_) (fun h34 => ?_)
        · refine go_tableIn (pc := 33) (tgt := 748) 16 h34 dL_law_33 (by decide) (by decide) rfl (by decide) ?_
          refine go_aload_n (pc := 748) (j := 1) (i := 1) dL_law_748 rfl rfl ?_
          refine go_aload_n (pc := 749) (j := 0) (i := 0) dL_law_749 rfl rfl ?_
          refine go_iload_n (pc := 750) (j := 3) (i := 3) dL_law_750 rfl rfl ?_
          refine go_iconst (pc := 751) (v := 1) dL_law_751 (by decide) ?_
          refine go_iadd (pc := 752) dL_law_752 ?_
          refine go_sald (pc := 753) t_x0 dL_law_753 ?_
          refine go_aload_n (pc := 754) (j := 0) (i := 0) dL_law_754 rfl rfl ?_
          refine go_iload_n (pc := 755) (j := 3) (i := 3) dL_law_755 rfl rfl ?_
          refine go_iconst (pc := 756) (v := 2) dL_law_756 (by decide) ?_
          refine go_iadd (pc := 757) dL_law_757 ?_
          refine go_sald (pc := 758) t_x0 dL_law_758 ?_
          refine go_aload_n (pc := 759) (j := 0) (i := 0) dL_law_759 rfl rfl ?_
          refine go_iload_n (pc := 760) (j := 3) (i := 3) dL_law_760 rfl rfl ?_
          refine go_iconst (pc := 761) (v := 3) dL_law_761 (by decide) ?_
          refine go_iadd (pc := 762) dL_law_762 ?_
          refine go_sald (pc := 763) t_x0 dL_law_763 ?_
          refine go_callVI (pc := 764) (ci := 0) (ct_X0_pay x1 (mI u x0 (xN (x3 + 1))) (mI u x0 (xN (x3 + 2))) (mI u x0 (xN (x3 + 3))) t_x1) lk_L_85 rfl rfl rfl (by decide) t_x1 ⟨by decide, by decide⟩ (Nat.le_of_ble_eq_true rfl) dL_law_764 rfl fun v35 u38 => ?_
          refine go_aload_n (pc := 767) (j := 2) (i := 2) dL_law_767 rfl rfl ?_
          refine go_aload_n (pc := 768) (j := 0) (i := 0) dL_law_768 rfl rfl ?_
          refine go_iload_n (pc := 769) (j := 3) (i := 3) dL_law_769 rfl rfl ?_
          refine go_iconst (pc := 770) (v := 1) dL_law_770 (by decide) ?_
          refine go_iadd (pc := 771) dL_law_771 ?_
          refine go_sald (pc := 772) t_x0 dL_law_772 ?_
          refine go_aload_n (pc := 773) (j := 0) (i := 0) dL_law_773 rfl rfl ?_
          refine go_iload_n (pc := 774) (j := 3) (i := 3) dL_law_774 rfl rfl ?_
          refine go_iconst (pc := 775) (v := 2) dL_law_775 (by decide) ?_
          refine go_iadd (pc := 776) dL_law_776 ?_
          refine go_sald (pc := 777) t_x0 dL_law_777 ?_
          refine go_aload_n (pc := 778) (j := 0) (i := 0) dL_law_778 rfl rfl ?_
          refine go_iload_n (pc := 779) (j := 3) (i := 3) dL_law_779 rfl rfl ?_
          refine go_iconst (pc := 780) (v := 3) dL_law_780 (by decide) ?_
          refine go_iadd (pc := 781) dL_law_781 ?_
          refine go_sald (pc := 782) t_x0 dL_law_782 ?_
          refine go_callVI (pc := 783) (ci := 3) (ct_X3_pay x2 (mI u38 x0 (xN (x3 + 1))) (mI u38 x0 (xN (x3 + 2))) (mI u38 x0 (xN (x3 + 3))) t_x2) lk_L_88 rfl rfl rfl (by decide) t_x2 ⟨by decide, by decide⟩ (Nat.le_of_ble_eq_true rfl) dL_law_783 rfl fun v36 u39 => ?_
          refine go_icmp_eq (pc := 786) (tgt := 1605) dL_law_786 (by decide) (fun h35 => ?_) (fun h35 => ?_)
          · exact go_weak (A' := [(0, .ref x0), (1, .ref x1), (2, .ref x2), (3, .int x3)]) (B' := []) ⟨rfl, rfl, rfl, rfl, trivial⟩ rfl (fun q h => by cases h) (hj1 u39 trivial)
          · refine go_iconst (pc := 789) (v := 0) dL_law_789 (by decide) ?_
            exact go_zreturn (pc := 790) rfl dL_law_790
        refine go_if (fun h36 => ?_) (fun h36 => ?_)
        · refine go_tableIn (pc := 33) (tgt := 791) 17 h36 dL_law_33 (by decide) (by decide) rfl (by decide) ?_
          refine go_aload_n (pc := 791) (j := 1) (i := 1) dL_law_791 rfl rfl ?_
          refine go_aload_n (pc := 792) (j := 0) (i := 0) dL_law_792 rfl rfl ?_
          refine go_iload_n (pc := 793) (j := 3) (i := 3) dL_law_793 rfl rfl ?_
          refine go_iconst (pc := 794) (v := 1) dL_law_794 (by decide) ?_
          refine go_iadd (pc := 795) dL_law_795 ?_
          refine go_sald (pc := 796) t_x0 dL_law_796 ?_
          refine go_aload_n (pc := 797) (j := 0) (i := 0) dL_law_797 rfl rfl ?_
          refine go_iload_n (pc := 798) (j := 3) (i := 3) dL_law_798 rfl rfl ?_
          refine go_iconst (pc := 799) (v := 2) dL_law_799 (by decide) ?_
          refine go_iadd (pc := 800) dL_law_800 ?_
          refine go_sald (pc := 801) t_x0 dL_law_801 ?_
          refine go_callVI (pc := 802) (ci := 0) (ct_X0_due x1 (mI u x0 (xN (x3 + 1))) (mI u x0 (xN (x3 + 2))) t_x1) lk_L_89 rfl rfl rfl (by decide) t_x1 ⟨by decide, by decide⟩ (Nat.le_of_ble_eq_true rfl) dL_law_802 rfl fun v37 u40 => ?_
          refine go_aload_n (pc := 805) (j := 2) (i := 2) dL_law_805 rfl rfl ?_
          refine go_aload_n (pc := 806) (j := 0) (i := 0) dL_law_806 rfl rfl ?_
          refine go_iload_n (pc := 807) (j := 3) (i := 3) dL_law_807 rfl rfl ?_
          refine go_iconst (pc := 808) (v := 1) dL_law_808 (by decide) ?_
          refine go_iadd (pc := 809) dL_law_809 ?_
          refine go_sald (pc := 810) t_x0 dL_law_810 ?_
          refine go_aload_n (pc := 811) (j := 0) (i := 0) dL_law_811 rfl rfl ?_
          refine go_iload_n (pc := 812) (j := 3) (i := 3) dL_law_812 rfl rfl ?_
          refine go_iconst (pc := 813) (v := 2) dL_law_813 (by decide) ?_
          refine go_iadd (pc := 814) dL_law_814 ?_
          refine go_sald (pc := 815) t_x0 dL_law_815 ?_
          refine go_callVI (pc := 816) (ci := 3) (ct_X3_due x2 (mI u40 x0 (xN (x3 + 1))) (mI u40 x0 (xN (x3 + 2))) t_x2) lk_L_92 rfl rfl rfl (by decide) t_x2 ⟨by decide, by decide⟩ (Nat.le_of_ble_eq_true rfl) dL_law_816 rfl fun v38 u41 => ?_
          refine go_icmp_eq (pc := 819) (tgt := 1605) dL_law_819 (by decide) (fun h37 => ?_) (fun h37 => ?_)
          · exact go_weak (A' := [(0, .ref x0), (1, .ref x1), (2, .ref x2), (3, .int x3)]) (B' := []) ⟨rfl, rfl, rfl, rfl, trivial⟩ rfl (fun q h => by cases h) (hj1 u41 trivial)
          · refine go_iconst (pc := 822) (v := 0) dL_law_822 (by decide) ?_
            exact go_zreturn (pc := 823) rfl dL_law_823
        refine go_if (fun h38 => ?_) (fun h38 => ?_)
        · refine go_tableIn (pc := 33) (tgt := 824) 18 h38 dL_law_33 (by decide) (by decide) rfl (by decide) ?_
          refine go_aload_n (pc := 824) (j := 1) (i := 1) dL_law_824 rfl rfl ?_
          refine go_aload_n (pc := 825) (j := 0) (i := 0) dL_law_825 rfl rfl ?_
          refine go_iload_n (pc := 826) (j := 3) (i := 3) dL_law_826 rfl rfl ?_
          refine go_iconst (pc := 827) (v := 1) dL_law_827 (by decide) ?_
          refine go_iadd (pc := 828) dL_law_828 ?_
          refine go_sald (pc := 829) t_x0 dL_law_829 ?_
          refine go_aload_n (pc := 830) (j := 0) (i := 0) dL_law_830 rfl rfl ?_
          refine go_iload_n (pc := 831) (j := 3) (i := 3) dL_law_831 rfl rfl ?_
          refine go_iconst (pc := 832) (v := 2) dL_law_832 (by decide) ?_
          refine go_iadd (pc := 833) dL_law_833 ?_
          refine go_sald (pc := 834) t_x0 dL_law_834 ?_
          refine go_aload_n (pc := 835) (j := 0) (i := 0) dL_law_835 rfl rfl ?_
          refine go_iload_n (pc := 836) (j := 3) (i := 3) dL_law_836 rfl rfl ?_
          refine go_iconst (pc := 837) (v := 3) dL_law_837 (by decide) ?_
          refine go_iadd (pc := 838) dL_law_838 ?_
          refine go_sald (pc := 839) t_x0 dL_law_839 ?_
          refine go_callVI (pc := 840) (ci := 0) (ct_X0_bar x1 (mI u x0 (xN (x3 + 1))) (mI u x0 (xN (x3 + 2))) (mI u x0 (xN (x3 + 3))) t_x1) lk_L_93 rfl rfl rfl (by decide) t_x1 ⟨by decide, by decide⟩ (Nat.le_of_ble_eq_true rfl) dL_law_840 rfl fun v39 u42 => ?_
          refine go_aload_n (pc := 843) (j := 2) (i := 2) dL_law_843 rfl rfl ?_
          refine go_aload_n (pc := 844) (j := 0) (i := 0) dL_law_844 rfl rfl ?_
          refine go_iload_n (pc := 845) (j := 3) (i := 3) dL_law_845 rfl rfl ?_
          refine go_iconst (pc := 846) (v := 1) dL_law_846 (by decide) ?_
          refine go_iadd (pc := 847) dL_law_847 ?_
          refine go_sald (pc := 848) t_x0 dL_law_848 ?_
          refine go_aload_n (pc := 849) (j := 0) (i := 0) dL_law_849 rfl rfl ?_
          refine go_iload_n (pc := 850) (j := 3) (i := 3) dL_law_850 rfl rfl ?_
          refine go_iconst (pc := 851) (v := 2) dL_law_851 (by decide) ?_
          refine go_iadd (pc := 852) dL_law_852 ?_
          refine go_sald (pc := 853) t_x0 dL_law_853 ?_
          refine go_aload_n (pc := 854) (j := 0) (i := 0) dL_law_854 rfl rfl ?_
          refine go_iload_n (pc := 855) (j := 3) (i := 3) dL_law_855 rfl rfl ?_
          refine go_iconst (pc := 856) (v := 3) dL_law_856 (by decide) ?_
          refine go_iadd (pc := 857) dL_law_857 ?_
          refine go_sald (pc := 858) t_x0 dL_law_858 ?_
          refine go_callVI (pc := 859) (ci := 3) (ct_X3_bar x2 (mI u42 x0 (xN (x3 + 1))) (mI u42 x0 (xN (x3 + 2))) (mI u42 x0 (xN (x3 + 3))) t_x2) lk_L_96 rfl rfl rfl (by decide) t_x2 ⟨by decide, by decide⟩ (Nat.le_of_ble_eq_true rfl) dL_law_859 rfl fun v40 u43 => ?_
          refine go_icmp_eq (pc := 862) (tgt := 1605) dL_law_862 (by decide) (fun h39 => ?_) (fun h39 => ?_)
          · exact go_weak (A' := [(0, .ref x0), (1, .ref x1), (2, .ref x2), (3, .int x3)]) (B' := []) ⟨rfl, rfl, rfl, rfl, trivial⟩ rfl (fun q h => by cases h) (hj1 u43 trivial)
          · refine go_iconst (pc := 865) (v := 0) dL_law_865 (by decide) ?_
            exact go_zreturn (pc := 866) rfl dL_law_866
        refine go_if (fun h40 => ?_) (fun h40 => ?_)
        · refine go_tableIn (pc := 33) (tgt := 867) 19 h40 dL_law_33 (by decide) (by decide) rfl (by decide) ?_
          refine go_aload_n (pc := 867) (j := 1) (i := 1) dL_law_867 rfl rfl ?_
          refine go_aload_n (pc := 868) (j := 0) (i := 0) dL_law_868 rfl rfl ?_
          refine go_iload_n (pc := 869) (j := 3) (i := 3) dL_law_869 rfl rfl ?_
          refine go_iconst (pc := 870) (v := 1) dL_law_870 (by decide) ?_
          refine go_iadd (pc := 871) dL_law_871 ?_
          refine go_sald (pc := 872) t_x0 dL_law_872 ?_
          refine go_aload_n (pc := 873) (j := 0) (i := 0) dL_law_873 rfl rfl ?_
          refine go_iload_n (pc := 874) (j := 3) (i := 3) dL_law_874 rfl rfl ?_
          refine go_iconst (pc := 875) (v := 2) dL_law_875 (by decide) ?_
          refine go_iadd (pc := 876) dL_law_876 ?_
          refine go_sald (pc := 877) t_x0 dL_law_877 ?_
          refine go_aload_n (pc := 878) (j := 0) (i := 0) dL_law_878 rfl rfl ?_
          refine go_iload_n (pc := 879) (j := 3) (i := 3) dL_law_879 rfl rfl ?_
          refine go_iconst (pc := 880) (v := 3) dL_law_880 (by decide) ?_
          refine go_iadd (pc := 881) dL_law_881 ?_
          refine go_sald (pc := 882) t_x0 dL_law_882 ?_
          refine go_callVI (pc := 883) (ci := 0) (ct_X0_weave x1 (mI u x0 (xN (x3 + 1))) (mI u x0 (xN (x3 + 2))) (mI u x0 (xN (x3 + 3))) t_x1) lk_L_97 rfl rfl rfl (by decide) t_x1 ⟨by decide, by decide⟩ (Nat.le_of_ble_eq_true rfl) dL_law_883 rfl fun v41 u44 => ?_
          refine go_aload_n (pc := 886) (j := 2) (i := 2) dL_law_886 rfl rfl ?_
          refine go_aload_n (pc := 887) (j := 0) (i := 0) dL_law_887 rfl rfl ?_
          refine go_iload_n (pc := 888) (j := 3) (i := 3) dL_law_888 rfl rfl ?_
          refine go_iconst (pc := 889) (v := 1) dL_law_889 (by decide) ?_
          refine go_iadd (pc := 890) dL_law_890 ?_
          refine go_sald (pc := 891) t_x0 dL_law_891 ?_
          refine go_aload_n (pc := 892) (j := 0) (i := 0) dL_law_892 rfl rfl ?_
          refine go_iload_n (pc := 893) (j := 3) (i := 3) dL_law_893 rfl rfl ?_
          refine go_iconst (pc := 894) (v := 2) dL_law_894 (by decide) ?_
          refine go_iadd (pc := 895) dL_law_895 ?_
          refine go_sald (pc := 896) t_x0 dL_law_896 ?_
          refine go_aload_n (pc := 897) (j := 0) (i := 0) dL_law_897 rfl rfl ?_
          refine go_iload_n (pc := 898) (j := 3) (i := 3) dL_law_898 rfl rfl ?_
          refine go_iconst (pc := 899) (v := 3) dL_law_899 (by decide) ?_
          refine go_iadd (pc := 900) dL_law_900 ?_
          refine go_sald (pc := 901) t_x0 dL_law_901 ?_
          refine go_callVI (pc := 902) (ci := 3) (ct_X3_weave x2 (mI u44 x0 (xN (x3 + 1))) (mI u44 x0 (xN (x3 + 2))) (mI u44 x0 (xN (x3 + 3))) t_x2) lk_L_100 rfl rfl rfl (by decide) t_x2 ⟨by decide, by decide⟩ (Nat.le_of_ble_eq_true rfl) dL_law_902 rfl fun v42 u45 => ?_
          refine go_icmp_eq (pc := 905) (tgt := 1605) dL_law_905 (by decide) (fun h41 => ?_) (fun h41 => ?_)
          · exact go_weak (A' := [(0, .ref x0), (1, .ref x1), (2, .ref x2), (3, .int x3)]) (B' := []) ⟨rfl, rfl, rfl, rfl, trivial⟩ rfl (fun q h => by cases h) (hj1 u45 trivial)
          · refine go_iconst (pc := 908) (v := 0) dL_law_908 (by decide) ?_
            exact go_zreturn (pc := 909) rfl dL_law_909
        refine go_if (fun h42 => ?_) (fun h42 => ?_)
        · refine go_tableIn (pc := 33) (tgt := 910) 20 h42 dL_law_33 (by decide) (by decide) rfl (by decide) ?_
          refine go_aload_n (pc := 910) (j := 1) (i := 1) dL_law_910 rfl rfl ?_
          refine go_aload_n (pc := 911) (j := 0) (i := 0) dL_law_911 rfl rfl ?_
          refine go_iload_n (pc := 912) (j := 3) (i := 3) dL_law_912 rfl rfl ?_
          refine go_iconst (pc := 913) (v := 1) dL_law_913 (by decide) ?_
          refine go_iadd (pc := 914) dL_law_914 ?_
          refine go_sald (pc := 915) t_x0 dL_law_915 ?_
          refine go_aload_n (pc := 916) (j := 0) (i := 0) dL_law_916 rfl rfl ?_
          refine go_iload_n (pc := 917) (j := 3) (i := 3) dL_law_917 rfl rfl ?_
          refine go_iconst (pc := 918) (v := 2) dL_law_918 (by decide) ?_
          refine go_iadd (pc := 919) dL_law_919 ?_
          refine go_sald (pc := 920) t_x0 dL_law_920 ?_
          refine go_callVI (pc := 921) (ci := 0) (ct_X0_cloth x1 (mI u x0 (xN (x3 + 1))) (mI u x0 (xN (x3 + 2))) t_x1) lk_L_101 rfl rfl rfl (by decide) t_x1 ⟨by decide, by decide⟩ (Nat.le_of_ble_eq_true rfl) dL_law_921 rfl fun v43 u46 => ?_
          refine go_aload_n (pc := 924) (j := 2) (i := 2) dL_law_924 rfl rfl ?_
          refine go_aload_n (pc := 925) (j := 0) (i := 0) dL_law_925 rfl rfl ?_
          refine go_iload_n (pc := 926) (j := 3) (i := 3) dL_law_926 rfl rfl ?_
          refine go_iconst (pc := 927) (v := 1) dL_law_927 (by decide) ?_
          refine go_iadd (pc := 928) dL_law_928 ?_
          refine go_sald (pc := 929) t_x0 dL_law_929 ?_
          refine go_aload_n (pc := 930) (j := 0) (i := 0) dL_law_930 rfl rfl ?_
          refine go_iload_n (pc := 931) (j := 3) (i := 3) dL_law_931 rfl rfl ?_
          refine go_iconst (pc := 932) (v := 2) dL_law_932 (by decide) ?_
          refine go_iadd (pc := 933) dL_law_933 ?_
          refine go_sald (pc := 934) t_x0 dL_law_934 ?_
          refine go_callVI (pc := 935) (ci := 3) (ct_X3_cloth x2 (mI u46 x0 (xN (x3 + 1))) (mI u46 x0 (xN (x3 + 2))) t_x2) lk_L_104 rfl rfl rfl (by decide) t_x2 ⟨by decide, by decide⟩ (Nat.le_of_ble_eq_true rfl) dL_law_935 rfl fun v44 u47 => ?_
          refine go_icmp_eq (pc := 938) (tgt := 1605) dL_law_938 (by decide) (fun h43 => ?_) (fun h43 => ?_)
          · exact go_weak (A' := [(0, .ref x0), (1, .ref x1), (2, .ref x2), (3, .int x3)]) (B' := []) ⟨rfl, rfl, rfl, rfl, trivial⟩ rfl (fun q h => by cases h) (hj1 u47 trivial)
          · refine go_iconst (pc := 941) (v := 0) dL_law_941 (by decide) ?_
            exact go_zreturn (pc := 942) rfl dL_law_942
        refine go_if (fun h44 => ?_) (fun h44 => ?_)
        · refine go_tableIn (pc := 33) (tgt := 943) 21 h44 dL_law_33 (by decide) (by decide) rfl (by decide) ?_
          refine go_aload_n (pc := 943) (j := 1) (i := 1) dL_law_943 rfl rfl ?_
          refine go_aload_n (pc := 944) (j := 0) (i := 0) dL_law_944 rfl rfl ?_
          refine go_iload_n (pc := 945) (j := 3) (i := 3) dL_law_945 rfl rfl ?_
          refine go_iconst (pc := 946) (v := 1) dL_law_946 (by decide) ?_
          refine go_iadd (pc := 947) dL_law_947 ?_
          refine go_sald (pc := 948) t_x0 dL_law_948 ?_
          refine go_callVI (pc := 949) (ci := 0) (ct_X0_ask x1 (mI u x0 (xN (x3 + 1))) t_x1) lk_L_105 rfl rfl rfl (by decide) t_x1 ⟨by decide, by decide⟩ (Nat.le_of_ble_eq_true rfl) dL_law_949 rfl fun v45 u48 => ?_
          refine go_aload_n (pc := 952) (j := 2) (i := 2) dL_law_952 rfl rfl ?_
          refine go_aload_n (pc := 953) (j := 0) (i := 0) dL_law_953 rfl rfl ?_
          refine go_iload_n (pc := 954) (j := 3) (i := 3) dL_law_954 rfl rfl ?_
          refine go_iconst (pc := 955) (v := 1) dL_law_955 (by decide) ?_
          refine go_iadd (pc := 956) dL_law_956 ?_
          refine go_sald (pc := 957) t_x0 dL_law_957 ?_
          refine go_callVI (pc := 958) (ci := 3) (ct_X3_ask x2 (mI u48 x0 (xN (x3 + 1))) t_x2) lk_L_108 rfl rfl rfl (by decide) t_x2 ⟨by decide, by decide⟩ (Nat.le_of_ble_eq_true rfl) dL_law_958 rfl fun v46 u49 => ?_
          refine go_icmp_eq (pc := 961) (tgt := 1605) dL_law_961 (by decide) (fun h45 => ?_) (fun h45 => ?_)
          · exact go_weak (A' := [(0, .ref x0), (1, .ref x1), (2, .ref x2), (3, .int x3)]) (B' := []) ⟨rfl, rfl, rfl, rfl, trivial⟩ rfl (fun q h => by cases h) (hj1 u49 trivial)
          · refine go_iconst (pc := 964) (v := 0) dL_law_964 (by decide) ?_
            exact go_zreturn (pc := 965) rfl dL_law_965
        refine go_if (fun h46 => ?_) (fun h46 => ?_)
        · refine go_tableIn (pc := 33) (tgt := 966) 22 h46 dL_law_33 (by decide) (by decide) rfl (by decide) ?_
          refine go_aload_n (pc := 966) (j := 1) (i := 1) dL_law_966 rfl rfl ?_
          refine go_callVI (pc := 967) (ci := 0) (ct_X0_clear x1 t_x1) lk_L_109 rfl rfl rfl (by decide) t_x1 ⟨by decide, by decide⟩ (Nat.le_of_ble_eq_true rfl) dL_law_967 rfl fun v47 u50 => ?_
          refine go_aload_n (pc := 970) (j := 2) (i := 2) dL_law_970 rfl rfl ?_
          refine go_callVI (pc := 971) (ci := 3) (ct_X3_clear x2 t_x2) lk_L_112 rfl rfl rfl (by decide) t_x2 ⟨by decide, by decide⟩ (Nat.le_of_ble_eq_true rfl) dL_law_971 rfl fun v48 u51 => ?_
          refine go_icmp_eq (pc := 974) (tgt := 1605) dL_law_974 (by decide) (fun h47 => ?_) (fun h47 => ?_)
          · exact go_weak (A' := [(0, .ref x0), (1, .ref x1), (2, .ref x2), (3, .int x3)]) (B' := []) ⟨rfl, rfl, rfl, rfl, trivial⟩ rfl (fun q h => by cases h) (hj1 u51 trivial)
          · refine go_iconst (pc := 977) (v := 0) dL_law_977 (by decide) ?_
            exact go_zreturn (pc := 978) rfl dL_law_978
        refine go_if (fun h48 => ?_) (fun h48 => ?_)
        · refine go_tableIn (pc := 33) (tgt := 979) 23 h48 dL_law_33 (by decide) (by decide) rfl (by decide) ?_
          refine go_aload_n (pc := 979) (j := 1) (i := 1) dL_law_979 rfl rfl ?_
          refine go_aload_n (pc := 980) (j := 0) (i := 0) dL_law_980 rfl rfl ?_
          refine go_iload_n (pc := 981) (j := 3) (i := 3) dL_law_981 rfl rfl ?_
          refine go_iconst (pc := 982) (v := 1) dL_law_982 (by decide) ?_
          refine go_iadd (pc := 983) dL_law_983 ?_
          refine go_sald (pc := 984) t_x0 dL_law_984 ?_
          refine go_aload_n (pc := 985) (j := 0) (i := 0) dL_law_985 rfl rfl ?_
          refine go_iload_n (pc := 986) (j := 3) (i := 3) dL_law_986 rfl rfl ?_
          refine go_iconst (pc := 987) (v := 2) dL_law_987 (by decide) ?_
          refine go_iadd (pc := 988) dL_law_988 ?_
          refine go_sald (pc := 989) t_x0 dL_law_989 ?_
          refine go_callVI (pc := 990) (ci := 0) (ct_X0_hands x1 (mI u x0 (xN (x3 + 1))) (mI u x0 (xN (x3 + 2))) t_x1) lk_L_113 rfl rfl rfl (by decide) t_x1 ⟨by decide, by decide⟩ (Nat.le_of_ble_eq_true rfl) dL_law_990 rfl fun v49 u52 => ?_
          refine go_aload_n (pc := 993) (j := 2) (i := 2) dL_law_993 rfl rfl ?_
          refine go_aload_n (pc := 994) (j := 0) (i := 0) dL_law_994 rfl rfl ?_
          refine go_iload_n (pc := 995) (j := 3) (i := 3) dL_law_995 rfl rfl ?_
          refine go_iconst (pc := 996) (v := 1) dL_law_996 (by decide) ?_
          refine go_iadd (pc := 997) dL_law_997 ?_
          refine go_sald (pc := 998) t_x0 dL_law_998 ?_
          refine go_aload_n (pc := 999) (j := 0) (i := 0) dL_law_999 rfl rfl ?_
          refine go_iload_n (pc := 1000) (j := 3) (i := 3) dL_law_1000 rfl rfl ?_
          refine go_iconst (pc := 1001) (v := 2) dL_law_1001 (by decide) ?_
          refine go_iadd (pc := 1002) dL_law_1002 ?_
          refine go_sald (pc := 1003) t_x0 dL_law_1003 ?_
          refine go_callVI (pc := 1004) (ci := 3) (ct_X3_hands x2 (mI u52 x0 (xN (x3 + 1))) (mI u52 x0 (xN (x3 + 2))) t_x2) lk_L_116 rfl rfl rfl (by decide) t_x2 ⟨by decide, by decide⟩ (Nat.le_of_ble_eq_true rfl) dL_law_1004 rfl fun v50 u53 => ?_
          refine go_icmp_eq (pc := 1007) (tgt := 1605) dL_law_1007 (by decide) (fun h49 => ?_) (fun h49 => ?_)
          · exact go_weak (A' := [(0, .ref x0), (1, .ref x1), (2, .ref x2), (3, .int x3)]) (B' := []) ⟨rfl, rfl, rfl, rfl, trivial⟩ rfl (fun q h => by cases h) (hj1 u53 trivial)
          · refine go_iconst (pc := 1010) (v := 0) dL_law_1010 (by decide) ?_
            exact go_zreturn (pc := 1011) rfl dL_law_1011
        refine go_if (fun h50 => ?_) (fun h50 => ?_)
        · refine go_tableIn (pc := 33) (tgt := 1012) 24 h50 dL_law_33 (by decide) (by decide) rfl (by decide) ?_
          refine go_aload_n (pc := 1012) (j := 1) (i := 1) dL_law_1012 rfl rfl ?_
          refine go_aload_n (pc := 1013) (j := 0) (i := 0) dL_law_1013 rfl rfl ?_
          refine go_iload_n (pc := 1014) (j := 3) (i := 3) dL_law_1014 rfl rfl ?_
          refine go_iconst (pc := 1015) (v := 1) dL_law_1015 (by decide) ?_
          refine go_iadd (pc := 1016) dL_law_1016 ?_
          refine go_sald (pc := 1017) t_x0 dL_law_1017 ?_
          refine go_aload_n (pc := 1018) (j := 0) (i := 0) dL_law_1018 rfl rfl ?_
          refine go_iload_n (pc := 1019) (j := 3) (i := 3) dL_law_1019 rfl rfl ?_
          refine go_iconst (pc := 1020) (v := 2) dL_law_1020 (by decide) ?_
          refine go_iadd (pc := 1021) dL_law_1021 ?_
          refine go_sald (pc := 1022) t_x0 dL_law_1022 ?_
          refine go_callVI (pc := 1023) (ci := 0) (ct_X0_bring x1 (mI u x0 (xN (x3 + 1))) (mI u x0 (xN (x3 + 2))) t_x1) lk_L_117 rfl rfl rfl (by decide) t_x1 ⟨by decide, by decide⟩ (Nat.le_of_ble_eq_true rfl) dL_law_1023 rfl fun v51 u54 => ?_
          refine go_aload_n (pc := 1026) (j := 2) (i := 2) dL_law_1026 rfl rfl ?_
          refine go_aload_n (pc := 1027) (j := 0) (i := 0) dL_law_1027 rfl rfl ?_
          refine go_iload_n (pc := 1028) (j := 3) (i := 3) dL_law_1028 rfl rfl ?_
          refine go_iconst (pc := 1029) (v := 1) dL_law_1029 (by decide) ?_
          refine go_iadd (pc := 1030) dL_law_1030 ?_
          refine go_sald (pc := 1031) t_x0 dL_law_1031 ?_
          refine go_aload_n (pc := 1032) (j := 0) (i := 0) dL_law_1032 rfl rfl ?_
          refine go_iload_n (pc := 1033) (j := 3) (i := 3) dL_law_1033 rfl rfl ?_
          refine go_iconst (pc := 1034) (v := 2) dL_law_1034 (by decide) ?_
          refine go_iadd (pc := 1035) dL_law_1035 ?_
          refine go_sald (pc := 1036) t_x0 dL_law_1036 ?_
          refine go_callVI (pc := 1037) (ci := 3) (ct_X3_bring x2 (mI u54 x0 (xN (x3 + 1))) (mI u54 x0 (xN (x3 + 2))) t_x2) lk_L_120 rfl rfl rfl (by decide) t_x2 ⟨by decide, by decide⟩ (Nat.le_of_ble_eq_true rfl) dL_law_1037 rfl fun v52 u55 => ?_
          refine go_icmp_eq (pc := 1040) (tgt := 1605) dL_law_1040 (by decide) (fun h51 => ?_) (fun h51 => ?_)
          · exact go_weak (A' := [(0, .ref x0), (1, .ref x1), (2, .ref x2), (3, .int x3)]) (B' := []) ⟨rfl, rfl, rfl, rfl, trivial⟩ rfl (fun q h => by cases h) (hj1 u55 trivial)
          · refine go_iconst (pc := 1043) (v := 0) dL_law_1043 (by decide) ?_
            exact go_zreturn (pc := 1044) rfl dL_law_1044
        refine go_if (fun h52 => ?_) (fun h52 => ?_)
        · refine go_tableIn (pc := 33) (tgt := 1045) 25 h52 dL_law_33 (by decide) (by decide) rfl (by decide) ?_
          refine go_aload_n (pc := 1045) (j := 1) (i := 1) dL_law_1045 rfl rfl ?_
          refine go_aload_n (pc := 1046) (j := 0) (i := 0) dL_law_1046 rfl rfl ?_
          refine go_iload_n (pc := 1047) (j := 3) (i := 3) dL_law_1047 rfl rfl ?_
          refine go_iconst (pc := 1048) (v := 1) dL_law_1048 (by decide) ?_
          refine go_iadd (pc := 1049) dL_law_1049 ?_
          refine go_sald (pc := 1050) t_x0 dL_law_1050 ?_
          refine go_aload_n (pc := 1051) (j := 0) (i := 0) dL_law_1051 rfl rfl ?_
          refine go_iload_n (pc := 1052) (j := 3) (i := 3) dL_law_1052 rfl rfl ?_
          refine go_iconst (pc := 1053) (v := 2) dL_law_1053 (by decide) ?_
          refine go_iadd (pc := 1054) dL_law_1054 ?_
          refine go_sald (pc := 1055) t_x0 dL_law_1055 ?_
          refine go_callVI (pc := 1056) (ci := 0) (ct_X0_mill x1 (mI u x0 (xN (x3 + 1))) (mI u x0 (xN (x3 + 2))) t_x1) lk_L_121 rfl rfl rfl (by decide) t_x1 ⟨by decide, by decide⟩ (Nat.le_of_ble_eq_true rfl) dL_law_1056 rfl fun v53 u56 => ?_
          refine go_aload_n (pc := 1059) (j := 2) (i := 2) dL_law_1059 rfl rfl ?_
          refine go_aload_n (pc := 1060) (j := 0) (i := 0) dL_law_1060 rfl rfl ?_
          refine go_iload_n (pc := 1061) (j := 3) (i := 3) dL_law_1061 rfl rfl ?_
          refine go_iconst (pc := 1062) (v := 1) dL_law_1062 (by decide) ?_
          refine go_iadd (pc := 1063) dL_law_1063 ?_
          refine go_sald (pc := 1064) t_x0 dL_law_1064 ?_
          refine go_aload_n (pc := 1065) (j := 0) (i := 0) dL_law_1065 rfl rfl ?_
          refine go_iload_n (pc := 1066) (j := 3) (i := 3) dL_law_1066 rfl rfl ?_
          refine go_iconst (pc := 1067) (v := 2) dL_law_1067 (by decide) ?_
          refine go_iadd (pc := 1068) dL_law_1068 ?_
          refine go_sald (pc := 1069) t_x0 dL_law_1069 ?_
          refine go_callVI (pc := 1070) (ci := 3) (ct_X3_mill x2 (mI u56 x0 (xN (x3 + 1))) (mI u56 x0 (xN (x3 + 2))) t_x2) lk_L_124 rfl rfl rfl (by decide) t_x2 ⟨by decide, by decide⟩ (Nat.le_of_ble_eq_true rfl) dL_law_1070 rfl fun v54 u57 => ?_
          refine go_icmp_eq (pc := 1073) (tgt := 1605) dL_law_1073 (by decide) (fun h53 => ?_) (fun h53 => ?_)
          · exact go_weak (A' := [(0, .ref x0), (1, .ref x1), (2, .ref x2), (3, .int x3)]) (B' := []) ⟨rfl, rfl, rfl, rfl, trivial⟩ rfl (fun q h => by cases h) (hj1 u57 trivial)
          · refine go_iconst (pc := 1076) (v := 0) dL_law_1076 (by decide) ?_
            exact go_zreturn (pc := 1077) rfl dL_law_1077
        refine go_if (fun h54 => ?_) (fun h54 => ?_)
        · refine go_tableIn (pc := 33) (tgt := 1078) 26 h54 dL_law_33 (by decide) (by decide) rfl (by decide) ?_
          refine go_aload_n (pc := 1078) (j := 1) (i := 1) dL_law_1078 rfl rfl ?_
          refine go_aload_n (pc := 1079) (j := 0) (i := 0) dL_law_1079 rfl rfl ?_
          refine go_iload_n (pc := 1080) (j := 3) (i := 3) dL_law_1080 rfl rfl ?_
          refine go_iconst (pc := 1081) (v := 1) dL_law_1081 (by decide) ?_
          refine go_iadd (pc := 1082) dL_law_1082 ?_
          refine go_sald (pc := 1083) t_x0 dL_law_1083 ?_
          refine go_aload_n (pc := 1084) (j := 0) (i := 0) dL_law_1084 rfl rfl ?_
          refine go_iload_n (pc := 1085) (j := 3) (i := 3) dL_law_1085 rfl rfl ?_
          refine go_iconst (pc := 1086) (v := 2) dL_law_1086 (by decide) ?_
          refine go_iadd (pc := 1087) dL_law_1087 ?_
          refine go_sald (pc := 1088) t_x0 dL_law_1088 ?_
          refine go_callVI (pc := 1089) (ci := 0) (ct_X0_price x1 (mI u x0 (xN (x3 + 1))) (mI u x0 (xN (x3 + 2))) t_x1) lk_L_125 rfl rfl rfl (by decide) t_x1 ⟨by decide, by decide⟩ (Nat.le_of_ble_eq_true rfl) dL_law_1089 rfl fun v55 u58 => ?_
          refine go_aload_n (pc := 1092) (j := 2) (i := 2) dL_law_1092 rfl rfl ?_
          refine go_aload_n (pc := 1093) (j := 0) (i := 0) dL_law_1093 rfl rfl ?_
          refine go_iload_n (pc := 1094) (j := 3) (i := 3) dL_law_1094 rfl rfl ?_
          refine go_iconst (pc := 1095) (v := 1) dL_law_1095 (by decide) ?_
          refine go_iadd (pc := 1096) dL_law_1096 ?_
          refine go_sald (pc := 1097) t_x0 dL_law_1097 ?_
          refine go_aload_n (pc := 1098) (j := 0) (i := 0) dL_law_1098 rfl rfl ?_
          refine go_iload_n (pc := 1099) (j := 3) (i := 3) dL_law_1099 rfl rfl ?_
          refine go_iconst (pc := 1100) (v := 2) dL_law_1100 (by decide) ?_
          refine go_iadd (pc := 1101) dL_law_1101 ?_
          refine go_sald (pc := 1102) t_x0 dL_law_1102 ?_
          refine go_callVI (pc := 1103) (ci := 3) (ct_X3_price x2 (mI u58 x0 (xN (x3 + 1))) (mI u58 x0 (xN (x3 + 2))) t_x2) lk_L_128 rfl rfl rfl (by decide) t_x2 ⟨by decide, by decide⟩ (Nat.le_of_ble_eq_true rfl) dL_law_1103 rfl fun v56 u59 => ?_
          refine go_icmp_eq (pc := 1106) (tgt := 1605) dL_law_1106 (by decide) (fun h55 => ?_) (fun h55 => ?_)
          · exact go_weak (A' := [(0, .ref x0), (1, .ref x1), (2, .ref x2), (3, .int x3)]) (B' := []) ⟨rfl, rfl, rfl, rfl, trivial⟩ rfl (fun q h => by cases h) (hj1 u59 trivial)
          · refine go_iconst (pc := 1109) (v := 0) dL_law_1109 (by decide) ?_
            exact go_zreturn (pc := 1110) rfl dL_law_1110
        refine go_if (fun h56 => ?_) (fun h56 => ?_)
        · refine go_tableIn (pc := 33) (tgt := 1111) 27 h56 dL_law_33 (by decide) (by decide) rfl (by decide) ?_
          refine go_aload_n (pc := 1111) (j := 1) (i := 1) dL_law_1111 rfl rfl ?_
          refine go_aload_n (pc := 1112) (j := 0) (i := 0) dL_law_1112 rfl rfl ?_
          refine go_iload_n (pc := 1113) (j := 3) (i := 3) dL_law_1113 rfl rfl ?_
          refine go_iconst (pc := 1114) (v := 1) dL_law_1114 (by decide) ?_
          refine go_iadd (pc := 1115) dL_law_1115 ?_
          refine go_sald (pc := 1116) t_x0 dL_law_1116 ?_
          refine go_aload_n (pc := 1117) (j := 0) (i := 0) dL_law_1117 rfl rfl ?_
          refine go_iload_n (pc := 1118) (j := 3) (i := 3) dL_law_1118 rfl rfl ?_
          refine go_iconst (pc := 1119) (v := 2) dL_law_1119 (by decide) ?_
          refine go_iadd (pc := 1120) dL_law_1120 ?_
          refine go_sald (pc := 1121) t_x0 dL_law_1121 ?_
          refine go_callVI (pc := 1122) (ci := 0) (ct_X0_talk x1 (mI u x0 (xN (x3 + 1))) (mI u x0 (xN (x3 + 2))) t_x1) lk_L_129 rfl rfl rfl (by decide) t_x1 ⟨by decide, by decide⟩ (Nat.le_of_ble_eq_true rfl) dL_law_1122 rfl fun v57 u60 => ?_
          refine go_aload_n (pc := 1125) (j := 2) (i := 2) dL_law_1125 rfl rfl ?_
          refine go_aload_n (pc := 1126) (j := 0) (i := 0) dL_law_1126 rfl rfl ?_
          refine go_iload_n (pc := 1127) (j := 3) (i := 3) dL_law_1127 rfl rfl ?_
          refine go_iconst (pc := 1128) (v := 1) dL_law_1128 (by decide) ?_
          refine go_iadd (pc := 1129) dL_law_1129 ?_
          refine go_sald (pc := 1130) t_x0 dL_law_1130 ?_
          refine go_aload_n (pc := 1131) (j := 0) (i := 0) dL_law_1131 rfl rfl ?_
          refine go_iload_n (pc := 1132) (j := 3) (i := 3) dL_law_1132 rfl rfl ?_
          refine go_iconst (pc := 1133) (v := 2) dL_law_1133 (by decide) ?_
          refine go_iadd (pc := 1134) dL_law_1134 ?_
          refine go_sald (pc := 1135) t_x0 dL_law_1135 ?_
          refine go_callVI (pc := 1136) (ci := 3) (ct_X3_talk x2 (mI u60 x0 (xN (x3 + 1))) (mI u60 x0 (xN (x3 + 2))) t_x2) lk_L_132 rfl rfl rfl (by decide) t_x2 ⟨by decide, by decide⟩ (Nat.le_of_ble_eq_true rfl) dL_law_1136 rfl fun v58 u61 => ?_
          refine go_icmp_eq (pc := 1139) (tgt := 1605) dL_law_1139 (by decide) (fun h57 => ?_) (fun h57 => ?_)
          · exact go_weak (A' := [(0, .ref x0), (1, .ref x1), (2, .ref x2), (3, .int x3)]) (B' := []) ⟨rfl, rfl, rfl, rfl, trivial⟩ rfl (fun q h => by cases h) (hj1 u61 trivial)
          · refine go_iconst (pc := 1142) (v := 0) dL_law_1142 (by decide) ?_
            exact go_zreturn (pc := 1143) rfl dL_law_1143
        refine go_if (fun h58 => ?_) (fun h58 => ?_)
        · refine go_tableIn (pc := 33) (tgt := 1144) 28 h58 dL_law_33 (by decide) (by decide) rfl (by decide) ?_
          refine go_aload_n (pc := 1144) (j := 1) (i := 1) dL_law_1144 rfl rfl ?_
          refine go_aload_n (pc := 1145) (j := 0) (i := 0) dL_law_1145 rfl rfl ?_
          refine go_iload_n (pc := 1146) (j := 3) (i := 3) dL_law_1146 rfl rfl ?_
          refine go_iconst (pc := 1147) (v := 1) dL_law_1147 (by decide) ?_
          refine go_iadd (pc := 1148) dL_law_1148 ?_
          refine go_sald (pc := 1149) t_x0 dL_law_1149 ?_
          refine go_aload_n (pc := 1150) (j := 0) (i := 0) dL_law_1150 rfl rfl ?_
          refine go_iload_n (pc := 1151) (j := 3) (i := 3) dL_law_1151 rfl rfl ?_
          refine go_iconst (pc := 1152) (v := 2) dL_law_1152 (by decide) ?_
          refine go_iadd (pc := 1153) dL_law_1153 ?_
          refine go_sald (pc := 1154) t_x0 dL_law_1154 ?_
          refine go_callVI (pc := 1155) (ci := 0) (ct_X0_heard x1 (mI u x0 (xN (x3 + 1))) (mI u x0 (xN (x3 + 2))) t_x1) lk_L_133 rfl rfl rfl (by decide) t_x1 ⟨by decide, by decide⟩ (Nat.le_of_ble_eq_true rfl) dL_law_1155 rfl fun v59 u62 => ?_
          refine go_aload_n (pc := 1158) (j := 2) (i := 2) dL_law_1158 rfl rfl ?_
          refine go_aload_n (pc := 1159) (j := 0) (i := 0) dL_law_1159 rfl rfl ?_
          refine go_iload_n (pc := 1160) (j := 3) (i := 3) dL_law_1160 rfl rfl ?_
          refine go_iconst (pc := 1161) (v := 1) dL_law_1161 (by decide) ?_
          refine go_iadd (pc := 1162) dL_law_1162 ?_
          refine go_sald (pc := 1163) t_x0 dL_law_1163 ?_
          refine go_aload_n (pc := 1164) (j := 0) (i := 0) dL_law_1164 rfl rfl ?_
          refine go_iload_n (pc := 1165) (j := 3) (i := 3) dL_law_1165 rfl rfl ?_
          refine go_iconst (pc := 1166) (v := 2) dL_law_1166 (by decide) ?_
          refine go_iadd (pc := 1167) dL_law_1167 ?_
          refine go_sald (pc := 1168) t_x0 dL_law_1168 ?_
          refine go_callVI (pc := 1169) (ci := 3) (ct_X3_heard x2 (mI u62 x0 (xN (x3 + 1))) (mI u62 x0 (xN (x3 + 2))) t_x2) lk_L_136 rfl rfl rfl (by decide) t_x2 ⟨by decide, by decide⟩ (Nat.le_of_ble_eq_true rfl) dL_law_1169 rfl fun v60 u63 => ?_
          refine go_icmp_eq (pc := 1172) (tgt := 1605) dL_law_1172 (by decide) (fun h59 => ?_) (fun h59 => ?_)
          · exact go_weak (A' := [(0, .ref x0), (1, .ref x1), (2, .ref x2), (3, .int x3)]) (B' := []) ⟨rfl, rfl, rfl, rfl, trivial⟩ rfl (fun q h => by cases h) (hj1 u63 trivial)
          · refine go_iconst (pc := 1175) (v := 0) dL_law_1175 (by decide) ?_
            exact go_zreturn (pc := 1176) rfl dL_law_1176
        refine go_if (fun h60 => ?_) (fun h60 => ?_)
        · refine go_tableIn (pc := 33) (tgt := 1177) 29 h60 dL_law_33 (by decide) (by decide) rfl (by decide) ?_
          refine go_aload_n (pc := 1177) (j := 1) (i := 1) dL_law_1177 rfl rfl ?_
          refine go_aload_n (pc := 1178) (j := 0) (i := 0) dL_law_1178 rfl rfl ?_
          refine go_iload_n (pc := 1179) (j := 3) (i := 3) dL_law_1179 rfl rfl ?_
          refine go_iconst (pc := 1180) (v := 1) dL_law_1180 (by decide) ?_
          refine go_iadd (pc := 1181) dL_law_1181 ?_
          refine go_sald (pc := 1182) t_x0 dL_law_1182 ?_
          refine go_callVI (pc := 1183) (ci := 0) (ct_X0_likes x1 (mI u x0 (xN (x3 + 1))) t_x1) lk_L_137 rfl rfl rfl (by decide) t_x1 ⟨by decide, by decide⟩ (Nat.le_of_ble_eq_true rfl) dL_law_1183 rfl fun v61 u64 => ?_
          refine go_aload_n (pc := 1186) (j := 2) (i := 2) dL_law_1186 rfl rfl ?_
          refine go_aload_n (pc := 1187) (j := 0) (i := 0) dL_law_1187 rfl rfl ?_
          refine go_iload_n (pc := 1188) (j := 3) (i := 3) dL_law_1188 rfl rfl ?_
          refine go_iconst (pc := 1189) (v := 1) dL_law_1189 (by decide) ?_
          refine go_iadd (pc := 1190) dL_law_1190 ?_
          refine go_sald (pc := 1191) t_x0 dL_law_1191 ?_
          refine go_callVI (pc := 1192) (ci := 3) (ct_X3_likes x2 (mI u64 x0 (xN (x3 + 1))) t_x2) lk_L_140 rfl rfl rfl (by decide) t_x2 ⟨by decide, by decide⟩ (Nat.le_of_ble_eq_true rfl) dL_law_1192 rfl fun v62 u65 => ?_
          refine go_icmp_eq (pc := 1195) (tgt := 1605) dL_law_1195 (by decide) (fun h61 => ?_) (fun h61 => ?_)
          · exact go_weak (A' := [(0, .ref x0), (1, .ref x1), (2, .ref x2), (3, .int x3)]) (B' := []) ⟨rfl, rfl, rfl, rfl, trivial⟩ rfl (fun q h => by cases h) (hj1 u65 trivial)
          · refine go_iconst (pc := 1198) (v := 0) dL_law_1198 (by decide) ?_
            exact go_zreturn (pc := 1199) rfl dL_law_1199
        refine go_if (fun h62 => ?_) (fun h62 => ?_)
        · refine go_tableIn (pc := 33) (tgt := 1200) 30 h62 dL_law_33 (by decide) (by decide) rfl (by decide) ?_
          refine go_aload_n (pc := 1200) (j := 1) (i := 1) dL_law_1200 rfl rfl ?_
          refine go_aload_n (pc := 1201) (j := 0) (i := 0) dL_law_1201 rfl rfl ?_
          refine go_iload_n (pc := 1202) (j := 3) (i := 3) dL_law_1202 rfl rfl ?_
          refine go_iconst (pc := 1203) (v := 1) dL_law_1203 (by decide) ?_
          refine go_iadd (pc := 1204) dL_law_1204 ?_
          refine go_sald (pc := 1205) t_x0 dL_law_1205 ?_
          refine go_aload_n (pc := 1206) (j := 0) (i := 0) dL_law_1206 rfl rfl ?_
          refine go_iload_n (pc := 1207) (j := 3) (i := 3) dL_law_1207 rfl rfl ?_
          refine go_iconst (pc := 1208) (v := 2) dL_law_1208 (by decide) ?_
          refine go_iadd (pc := 1209) dL_law_1209 ?_
          refine go_sald (pc := 1210) t_x0 dL_law_1210 ?_
          refine go_callVI (pc := 1211) (ci := 0) (ct_X0_sold x1 (mI u x0 (xN (x3 + 1))) (mI u x0 (xN (x3 + 2))) t_x1) lk_L_141 rfl rfl rfl (by decide) t_x1 ⟨by decide, by decide⟩ (Nat.le_of_ble_eq_true rfl) dL_law_1211 rfl fun v63 u66 => ?_
          refine go_aload_n (pc := 1214) (j := 2) (i := 2) dL_law_1214 rfl rfl ?_
          refine go_aload_n (pc := 1215) (j := 0) (i := 0) dL_law_1215 rfl rfl ?_
          refine go_iload_n (pc := 1216) (j := 3) (i := 3) dL_law_1216 rfl rfl ?_
          refine go_iconst (pc := 1217) (v := 1) dL_law_1217 (by decide) ?_
          refine go_iadd (pc := 1218) dL_law_1218 ?_
          refine go_sald (pc := 1219) t_x0 dL_law_1219 ?_
          refine go_aload_n (pc := 1220) (j := 0) (i := 0) dL_law_1220 rfl rfl ?_
          refine go_iload_n (pc := 1221) (j := 3) (i := 3) dL_law_1221 rfl rfl ?_
          refine go_iconst (pc := 1222) (v := 2) dL_law_1222 (by decide) ?_
          refine go_iadd (pc := 1223) dL_law_1223 ?_
          refine go_sald (pc := 1224) t_x0 dL_law_1224 ?_
          refine go_callVI (pc := 1225) (ci := 3) (ct_X3_sold x2 (mI u66 x0 (xN (x3 + 1))) (mI u66 x0 (xN (x3 + 2))) t_x2) lk_L_144 rfl rfl rfl (by decide) t_x2 ⟨by decide, by decide⟩ (Nat.le_of_ble_eq_true rfl) dL_law_1225 rfl fun v64 u67 => ?_
          refine go_icmp_eq (pc := 1228) (tgt := 1605) dL_law_1228 (by decide) (fun h63 => ?_) (fun h63 => ?_)
          · exact go_weak (A' := [(0, .ref x0), (1, .ref x1), (2, .ref x2), (3, .int x3)]) (B' := []) ⟨rfl, rfl, rfl, rfl, trivial⟩ rfl (fun q h => by cases h) (hj1 u67 trivial)
          · refine go_iconst (pc := 1231) (v := 0) dL_law_1231 (by decide) ?_
            exact go_zreturn (pc := 1232) rfl dL_law_1232
        refine go_if (fun h64 => ?_) (fun h64 => ?_)
        · refine go_tableIn (pc := 33) (tgt := 1233) 31 h64 dL_law_33 (by decide) (by decide) rfl (by decide) ?_
          refine go_aload_n (pc := 1233) (j := 1) (i := 1) dL_law_1233 rfl rfl ?_
          refine go_aload_n (pc := 1234) (j := 0) (i := 0) dL_law_1234 rfl rfl ?_
          refine go_iload_n (pc := 1235) (j := 3) (i := 3) dL_law_1235 rfl rfl ?_
          refine go_iconst (pc := 1236) (v := 1) dL_law_1236 (by decide) ?_
          refine go_iadd (pc := 1237) dL_law_1237 ?_
          refine go_sald (pc := 1238) t_x0 dL_law_1238 ?_
          refine go_aload_n (pc := 1239) (j := 0) (i := 0) dL_law_1239 rfl rfl ?_
          refine go_iload_n (pc := 1240) (j := 3) (i := 3) dL_law_1240 rfl rfl ?_
          refine go_iconst (pc := 1241) (v := 2) dL_law_1241 (by decide) ?_
          refine go_iadd (pc := 1242) dL_law_1242 ?_
          refine go_sald (pc := 1243) t_x0 dL_law_1243 ?_
          refine go_join1 (pcx := 1252) (α1 := Int32) (fun z1 => [(0, .ref x0), (1, .ref x1), (2, .ref x2), (3, .int x3)]) (fun z1 => []) (fun z1 => [.int z1, .int (mI u x0 (xN (x3 + 1))), .ref x1]) (fun z1 => True) (fun z1 u68 _ => ?_) (fun j2 hj2 => ?_)
          · refine go_callVI (pc := 1252) (ci := 0) (ct_X0_wrong x1 (mI u x0 (xN (x3 + 1))) z1 t_x1) lk_L_145 rfl rfl rfl (by decide) t_x1 ⟨by decide, by decide⟩ (Nat.le_of_ble_eq_true rfl) dL_law_1252 rfl fun v65 u69 => ?_
            refine go_aload_n (pc := 1255) (j := 2) (i := 2) dL_law_1255 rfl rfl ?_
            refine go_aload_n (pc := 1256) (j := 0) (i := 0) dL_law_1256 rfl rfl ?_
            refine go_iload_n (pc := 1257) (j := 3) (i := 3) dL_law_1257 rfl rfl ?_
            refine go_iconst (pc := 1258) (v := 1) dL_law_1258 (by decide) ?_
            refine go_iadd (pc := 1259) dL_law_1259 ?_
            refine go_sald (pc := 1260) t_x0 dL_law_1260 ?_
            refine go_aload_n (pc := 1261) (j := 0) (i := 0) dL_law_1261 rfl rfl ?_
            refine go_iload_n (pc := 1262) (j := 3) (i := 3) dL_law_1262 rfl rfl ?_
            refine go_iconst (pc := 1263) (v := 2) dL_law_1263 (by decide) ?_
            refine go_iadd (pc := 1264) dL_law_1264 ?_
            refine go_sald (pc := 1265) t_x0 dL_law_1265 ?_
            refine go_join1 (pcx := 1274) (α1 := Int32) (fun z2 => [(0, .ref x0), (1, .ref x1), (2, .ref x2), (3, .int x3)]) (fun z2 => []) (fun z2 => [.int z2, .int (mI u69 x0 (xN (x3 + 1))), .ref x2, .int v65]) (fun z2 => True) (fun z2 u70 _ => ?_) (fun j3 hj3 => ?_)
            · refine go_callVI (pc := 1274) (ci := 3) (ct_X3_wrong x2 (mI u69 x0 (xN (x3 + 1))) z2 t_x2) lk_L_149 rfl rfl rfl (by decide) t_x2 ⟨by decide, by decide⟩ (Nat.le_of_ble_eq_true rfl) dL_law_1274 rfl fun v66 u71 => ?_
              refine go_icmp_eq (pc := 1277) (tgt := 1605) dL_law_1277 (by decide) (fun h65 => ?_) (fun h65 => ?_)
              · exact go_weak (A' := [(0, .ref x0), (1, .ref x1), (2, .ref x2), (3, .int x3)]) (B' := []) ⟨rfl, rfl, rfl, rfl, trivial⟩ rfl (fun q h => by cases h) (hj1 u71 trivial)
              · refine go_iconst (pc := 1280) (v := 0) dL_law_1280 (by decide) ?_
                exact go_zreturn (pc := 1281) rfl dL_law_1281
            · refine go_if_eq (pc := 1266) (tgt := 1273) dL_law_1266 (by decide) (fun h66 => ?_) (fun h66 => ?_)
              · refine go_iconst (pc := 1273) (v := 0) dL_law_1273 (by decide) ?_
                exact go_weak (A' := [(0, .ref x0), (1, .ref x1), (2, .ref x2), (3, .int x3)]) (B' := []) ⟨rfl, rfl, rfl, rfl, trivial⟩ rfl (fun q h => by cases h) (hj3 0 u69 trivial)
              · refine go_iconst (pc := 1269) (v := 1) dL_law_1269 (by decide) ?_
                refine go_goto (pc := 1270) (tgt := 1274) dL_law_1270 (by decide) ?_
                exact go_weak (A' := [(0, .ref x0), (1, .ref x1), (2, .ref x2), (3, .int x3)]) (B' := []) ⟨rfl, rfl, rfl, rfl, trivial⟩ rfl (fun q h => by cases h) (hj3 1 u69 trivial)
          · refine go_if_eq (pc := 1244) (tgt := 1251) dL_law_1244 (by decide) (fun h67 => ?_) (fun h67 => ?_)
            · refine go_iconst (pc := 1251) (v := 0) dL_law_1251 (by decide) ?_
              exact go_weak (A' := [(0, .ref x0), (1, .ref x1), (2, .ref x2), (3, .int x3)]) (B' := []) ⟨rfl, rfl, rfl, rfl, trivial⟩ rfl (fun q h => by cases h) (hj2 0 u trivial)
            · refine go_iconst (pc := 1247) (v := 1) dL_law_1247 (by decide) ?_
              refine go_goto (pc := 1248) (tgt := 1252) dL_law_1248 (by decide) ?_
              exact go_weak (A' := [(0, .ref x0), (1, .ref x1), (2, .ref x2), (3, .int x3)]) (B' := []) ⟨rfl, rfl, rfl, rfl, trivial⟩ rfl (fun q h => by cases h) (hj2 1 u trivial)
        refine go_if (fun h68 => ?_) (fun h68 => ?_)
        · refine go_tableIn (pc := 33) (tgt := 1282) 32 h68 dL_law_33 (by decide) (by decide) rfl (by decide) ?_
          refine go_aload_n (pc := 1282) (j := 1) (i := 1) dL_law_1282 rfl rfl ?_
          refine go_callVI (pc := 1283) (ci := 0) (ct_X0_look x1 t_x1) lk_L_150 rfl rfl rfl (by decide) t_x1 ⟨by decide, by decide⟩ (Nat.le_of_ble_eq_true rfl) dL_law_1283 rfl fun v67 u72 => ?_
          refine go_aload_n (pc := 1286) (j := 2) (i := 2) dL_law_1286 rfl rfl ?_
          refine go_callVI (pc := 1287) (ci := 3) (ct_X3_look x2 t_x2) lk_L_153 rfl rfl rfl (by decide) t_x2 ⟨by decide, by decide⟩ (Nat.le_of_ble_eq_true rfl) dL_law_1287 rfl fun v68 u73 => ?_
          refine go_icmp_eq (pc := 1290) (tgt := 1605) dL_law_1290 (by decide) (fun h69 => ?_) (fun h69 => ?_)
          · exact go_weak (A' := [(0, .ref x0), (1, .ref x1), (2, .ref x2), (3, .int x3)]) (B' := []) ⟨rfl, rfl, rfl, rfl, trivial⟩ rfl (fun q h => by cases h) (hj1 u73 trivial)
          · refine go_iconst (pc := 1293) (v := 0) dL_law_1293 (by decide) ?_
            exact go_zreturn (pc := 1294) rfl dL_law_1294
        refine go_if (fun h70 => ?_) (fun h70 => ?_)
        · refine go_tableIn (pc := 33) (tgt := 1295) 33 h70 dL_law_33 (by decide) (by decide) rfl (by decide) ?_
          refine go_aload_n (pc := 1295) (j := 1) (i := 1) dL_law_1295 rfl rfl ?_
          refine go_aload_n (pc := 1296) (j := 0) (i := 0) dL_law_1296 rfl rfl ?_
          refine go_iload_n (pc := 1297) (j := 3) (i := 3) dL_law_1297 rfl rfl ?_
          refine go_iconst (pc := 1298) (v := 1) dL_law_1298 (by decide) ?_
          refine go_iadd (pc := 1299) dL_law_1299 ?_
          refine go_sald (pc := 1300) t_x0 dL_law_1300 ?_
          refine go_aload_n (pc := 1301) (j := 0) (i := 0) dL_law_1301 rfl rfl ?_
          refine go_iload_n (pc := 1302) (j := 3) (i := 3) dL_law_1302 rfl rfl ?_
          refine go_iconst (pc := 1303) (v := 2) dL_law_1303 (by decide) ?_
          refine go_iadd (pc := 1304) dL_law_1304 ?_
          refine go_sald (pc := 1305) t_x0 dL_law_1305 ?_
          refine go_aload_n (pc := 1306) (j := 0) (i := 0) dL_law_1306 rfl rfl ?_
          refine go_iload_n (pc := 1307) (j := 3) (i := 3) dL_law_1307 rfl rfl ?_
          refine go_iconst (pc := 1308) (v := 3) dL_law_1308 (by decide) ?_
          refine go_iadd (pc := 1309) dL_law_1309 ?_
          refine go_sald (pc := 1310) t_x0 dL_law_1310 ?_
          refine go_callVI (pc := 1311) (ci := 0) (ct_X0_gift x1 (mI u x0 (xN (x3 + 1))) (mI u x0 (xN (x3 + 2))) (mI u x0 (xN (x3 + 3))) t_x1) lk_L_154 rfl rfl rfl (by decide) t_x1 ⟨by decide, by decide⟩ (Nat.le_of_ble_eq_true rfl) dL_law_1311 rfl fun v69 u74 => ?_
          refine go_aload_n (pc := 1314) (j := 2) (i := 2) dL_law_1314 rfl rfl ?_
          refine go_aload_n (pc := 1315) (j := 0) (i := 0) dL_law_1315 rfl rfl ?_
          refine go_iload_n (pc := 1316) (j := 3) (i := 3) dL_law_1316 rfl rfl ?_
          refine go_iconst (pc := 1317) (v := 1) dL_law_1317 (by decide) ?_
          refine go_iadd (pc := 1318) dL_law_1318 ?_
          refine go_sald (pc := 1319) t_x0 dL_law_1319 ?_
          refine go_aload_n (pc := 1320) (j := 0) (i := 0) dL_law_1320 rfl rfl ?_
          refine go_iload_n (pc := 1321) (j := 3) (i := 3) dL_law_1321 rfl rfl ?_
          refine go_iconst (pc := 1322) (v := 2) dL_law_1322 (by decide) ?_
          refine go_iadd (pc := 1323) dL_law_1323 ?_
          refine go_sald (pc := 1324) t_x0 dL_law_1324 ?_
          refine go_aload_n (pc := 1325) (j := 0) (i := 0) dL_law_1325 rfl rfl ?_
          refine go_iload_n (pc := 1326) (j := 3) (i := 3) dL_law_1326 rfl rfl ?_
          refine go_iconst (pc := 1327) (v := 3) dL_law_1327 (by decide) ?_
          refine go_iadd (pc := 1328) dL_law_1328 ?_
          refine go_sald (pc := 1329) t_x0 dL_law_1329 ?_
          refine go_callVI (pc := 1330) (ci := 3) (ct_X3_gift x2 (mI u74 x0 (xN (x3 + 1))) (mI u74 x0 (xN (x3 + 2))) (mI u74 x0 (xN (x3 + 3))) t_x2) lk_L_157 rfl rfl rfl (by decide) t_x2 ⟨by decide, by decide⟩ (Nat.le_of_ble_eq_true rfl) dL_law_1330 rfl fun v70 u75 => ?_
          refine go_icmp_eq (pc := 1333) (tgt := 1605) dL_law_1333 (by decide) (fun h71 => ?_) (fun h71 => ?_)
          · exact go_weak (A' := [(0, .ref x0), (1, .ref x1), (2, .ref x2), (3, .int x3)]) (B' := []) ⟨rfl, rfl, rfl, rfl, trivial⟩ rfl (fun q h => by cases h) (hj1 u75 trivial)
          · refine go_iconst (pc := 1336) (v := 0) dL_law_1336 (by decide) ?_
            exact go_zreturn (pc := 1337) rfl dL_law_1337
        refine go_if (fun h72 => ?_) (fun h72 => ?_)
        · refine go_tableIn (pc := 33) (tgt := 1338) 34 h72 dL_law_33 (by decide) (by decide) rfl (by decide) ?_
          refine go_aload_n (pc := 1338) (j := 1) (i := 1) dL_law_1338 rfl rfl ?_
          refine go_callVI (pc := 1339) (ci := 0) (ct_X0_forget x1 t_x1) lk_L_158 rfl rfl rfl (by decide) t_x1 ⟨by decide, by decide⟩ (Nat.le_of_ble_eq_true rfl) dL_law_1339 rfl fun v71 u76 => ?_
          refine go_aload_n (pc := 1342) (j := 2) (i := 2) dL_law_1342 rfl rfl ?_
          refine go_callVI (pc := 1343) (ci := 3) (ct_X3_forget x2 t_x2) lk_L_161 rfl rfl rfl (by decide) t_x2 ⟨by decide, by decide⟩ (Nat.le_of_ble_eq_true rfl) dL_law_1343 rfl fun v72 u77 => ?_
          refine go_icmp_eq (pc := 1346) (tgt := 1605) dL_law_1346 (by decide) (fun h73 => ?_) (fun h73 => ?_)
          · exact go_weak (A' := [(0, .ref x0), (1, .ref x1), (2, .ref x2), (3, .int x3)]) (B' := []) ⟨rfl, rfl, rfl, rfl, trivial⟩ rfl (fun q h => by cases h) (hj1 u77 trivial)
          · refine go_iconst (pc := 1349) (v := 0) dL_law_1349 (by decide) ?_
            exact go_zreturn (pc := 1350) rfl dL_law_1350
        refine go_if (fun h74 => ?_) (fun h74 => ?_)
        · refine go_tableIn (pc := 33) (tgt := 1351) 35 h74 dL_law_33 (by decide) (by decide) rfl (by decide) ?_
          refine go_aload_n (pc := 1351) (j := 1) (i := 1) dL_law_1351 rfl rfl ?_
          refine go_aload_n (pc := 1352) (j := 0) (i := 0) dL_law_1352 rfl rfl ?_
          refine go_iload_n (pc := 1353) (j := 3) (i := 3) dL_law_1353 rfl rfl ?_
          refine go_iconst (pc := 1354) (v := 1) dL_law_1354 (by decide) ?_
          refine go_iadd (pc := 1355) dL_law_1355 ?_
          refine go_sald (pc := 1356) t_x0 dL_law_1356 ?_
          refine go_aload_n (pc := 1357) (j := 0) (i := 0) dL_law_1357 rfl rfl ?_
          refine go_iload_n (pc := 1358) (j := 3) (i := 3) dL_law_1358 rfl rfl ?_
          refine go_iconst (pc := 1359) (v := 2) dL_law_1359 (by decide) ?_
          refine go_iadd (pc := 1360) dL_law_1360 ?_
          refine go_sald (pc := 1361) t_x0 dL_law_1361 ?_
          refine go_callVI (pc := 1362) (ci := 0) (ct_X0_best x1 (mI u x0 (xN (x3 + 1))) (mI u x0 (xN (x3 + 2))) t_x1) lk_L_162 rfl rfl rfl (by decide) t_x1 ⟨by decide, by decide⟩ (Nat.le_of_ble_eq_true rfl) dL_law_1362 rfl fun v73 u78 => ?_
          refine go_aload_n (pc := 1365) (j := 2) (i := 2) dL_law_1365 rfl rfl ?_
          refine go_aload_n (pc := 1366) (j := 0) (i := 0) dL_law_1366 rfl rfl ?_
          refine go_iload_n (pc := 1367) (j := 3) (i := 3) dL_law_1367 rfl rfl ?_
          refine go_iconst (pc := 1368) (v := 1) dL_law_1368 (by decide) ?_
          refine go_iadd (pc := 1369) dL_law_1369 ?_
          refine go_sald (pc := 1370) t_x0 dL_law_1370 ?_
          refine go_aload_n (pc := 1371) (j := 0) (i := 0) dL_law_1371 rfl rfl ?_
          refine go_iload_n (pc := 1372) (j := 3) (i := 3) dL_law_1372 rfl rfl ?_
          refine go_iconst (pc := 1373) (v := 2) dL_law_1373 (by decide) ?_
          refine go_iadd (pc := 1374) dL_law_1374 ?_
          refine go_sald (pc := 1375) t_x0 dL_law_1375 ?_
          refine go_callVI (pc := 1376) (ci := 3) (ct_X3_best x2 (mI u78 x0 (xN (x3 + 1))) (mI u78 x0 (xN (x3 + 2))) t_x2) lk_L_165 rfl rfl rfl (by decide) t_x2 ⟨by decide, by decide⟩ (Nat.le_of_ble_eq_true rfl) dL_law_1376 rfl fun v74 u79 => ?_
          refine go_icmp_eq (pc := 1379) (tgt := 1605) dL_law_1379 (by decide) (fun h75 => ?_) (fun h75 => ?_)
          · exact go_weak (A' := [(0, .ref x0), (1, .ref x1), (2, .ref x2), (3, .int x3)]) (B' := []) ⟨rfl, rfl, rfl, rfl, trivial⟩ rfl (fun q h => by cases h) (hj1 u79 trivial)
          · refine go_iconst (pc := 1382) (v := 0) dL_law_1382 (by decide) ?_
            exact go_zreturn (pc := 1383) rfl dL_law_1383
        refine go_if (fun h76 => ?_) (fun h76 => ?_)
        · refine go_tableIn (pc := 33) (tgt := 1384) 36 h76 dL_law_33 (by decide) (by decide) rfl (by decide) ?_
          refine go_aload_n (pc := 1384) (j := 1) (i := 1) dL_law_1384 rfl rfl ?_
          refine go_aload_n (pc := 1385) (j := 0) (i := 0) dL_law_1385 rfl rfl ?_
          refine go_iload_n (pc := 1386) (j := 3) (i := 3) dL_law_1386 rfl rfl ?_
          refine go_iconst (pc := 1387) (v := 1) dL_law_1387 (by decide) ?_
          refine go_iadd (pc := 1388) dL_law_1388 ?_
          refine go_sald (pc := 1389) t_x0 dL_law_1389 ?_
          refine go_callVI (pc := 1390) (ci := 0) (ct_X0_hungry x1 (mI u x0 (xN (x3 + 1))) t_x1) lk_L_166 rfl rfl rfl (by decide) t_x1 ⟨by decide, by decide⟩ (Nat.le_of_ble_eq_true rfl) dL_law_1390 rfl fun v75 u80 => ?_
          refine go_aload_n (pc := 1393) (j := 2) (i := 2) dL_law_1393 rfl rfl ?_
          refine go_aload_n (pc := 1394) (j := 0) (i := 0) dL_law_1394 rfl rfl ?_
          refine go_iload_n (pc := 1395) (j := 3) (i := 3) dL_law_1395 rfl rfl ?_
          refine go_iconst (pc := 1396) (v := 1) dL_law_1396 (by decide) ?_
          refine go_iadd (pc := 1397) dL_law_1397 ?_
          refine go_sald (pc := 1398) t_x0 dL_law_1398 ?_
          refine go_callVI (pc := 1399) (ci := 3) (ct_X3_hungry x2 (mI u80 x0 (xN (x3 + 1))) t_x2) lk_L_169 rfl rfl rfl (by decide) t_x2 ⟨by decide, by decide⟩ (Nat.le_of_ble_eq_true rfl) dL_law_1399 rfl fun v76 u81 => ?_
          refine go_icmp_eq (pc := 1402) (tgt := 1605) dL_law_1402 (by decide) (fun h77 => ?_) (fun h77 => ?_)
          · exact go_weak (A' := [(0, .ref x0), (1, .ref x1), (2, .ref x2), (3, .int x3)]) (B' := []) ⟨rfl, rfl, rfl, rfl, trivial⟩ rfl (fun q h => by cases h) (hj1 u81 trivial)
          · refine go_iconst (pc := 1405) (v := 0) dL_law_1405 (by decide) ?_
            exact go_zreturn (pc := 1406) rfl dL_law_1406
        refine go_if (fun h78 => ?_) (fun h78 => ?_)
        · refine go_tableIn (pc := 33) (tgt := 1407) 37 h78 dL_law_33 (by decide) (by decide) rfl (by decide) ?_
          refine go_aload_n (pc := 1407) (j := 1) (i := 1) dL_law_1407 rfl rfl ?_
          refine go_aload_n (pc := 1408) (j := 0) (i := 0) dL_law_1408 rfl rfl ?_
          refine go_iload_n (pc := 1409) (j := 3) (i := 3) dL_law_1409 rfl rfl ?_
          refine go_iconst (pc := 1410) (v := 1) dL_law_1410 (by decide) ?_
          refine go_iadd (pc := 1411) dL_law_1411 ?_
          refine go_sald (pc := 1412) t_x0 dL_law_1412 ?_
          refine go_aload_n (pc := 1413) (j := 0) (i := 0) dL_law_1413 rfl rfl ?_
          refine go_iload_n (pc := 1414) (j := 3) (i := 3) dL_law_1414 rfl rfl ?_
          refine go_iconst (pc := 1415) (v := 2) dL_law_1415 (by decide) ?_
          refine go_iadd (pc := 1416) dL_law_1416 ?_
          refine go_sald (pc := 1417) t_x0 dL_law_1417 ?_
          refine go_callVI (pc := 1418) (ci := 0) (ct_X0_keeps x1 (mI u x0 (xN (x3 + 1))) (mI u x0 (xN (x3 + 2))) t_x1) lk_L_170 rfl rfl rfl (by decide) t_x1 ⟨by decide, by decide⟩ (Nat.le_of_ble_eq_true rfl) dL_law_1418 rfl fun v77 u82 => ?_
          refine go_aload_n (pc := 1421) (j := 2) (i := 2) dL_law_1421 rfl rfl ?_
          refine go_aload_n (pc := 1422) (j := 0) (i := 0) dL_law_1422 rfl rfl ?_
          refine go_iload_n (pc := 1423) (j := 3) (i := 3) dL_law_1423 rfl rfl ?_
          refine go_iconst (pc := 1424) (v := 1) dL_law_1424 (by decide) ?_
          refine go_iadd (pc := 1425) dL_law_1425 ?_
          refine go_sald (pc := 1426) t_x0 dL_law_1426 ?_
          refine go_aload_n (pc := 1427) (j := 0) (i := 0) dL_law_1427 rfl rfl ?_
          refine go_iload_n (pc := 1428) (j := 3) (i := 3) dL_law_1428 rfl rfl ?_
          refine go_iconst (pc := 1429) (v := 2) dL_law_1429 (by decide) ?_
          refine go_iadd (pc := 1430) dL_law_1430 ?_
          refine go_sald (pc := 1431) t_x0 dL_law_1431 ?_
          refine go_callVI (pc := 1432) (ci := 3) (ct_X3_keeps x2 (mI u82 x0 (xN (x3 + 1))) (mI u82 x0 (xN (x3 + 2))) t_x2) lk_L_173 rfl rfl rfl (by decide) t_x2 ⟨by decide, by decide⟩ (Nat.le_of_ble_eq_true rfl) dL_law_1432 rfl fun v78 u83 => ?_
          refine go_icmp_eq (pc := 1435) (tgt := 1605) dL_law_1435 (by decide) (fun h79 => ?_) (fun h79 => ?_)
          · exact go_weak (A' := [(0, .ref x0), (1, .ref x1), (2, .ref x2), (3, .int x3)]) (B' := []) ⟨rfl, rfl, rfl, rfl, trivial⟩ rfl (fun q h => by cases h) (hj1 u83 trivial)
          · refine go_iconst (pc := 1438) (v := 0) dL_law_1438 (by decide) ?_
            exact go_zreturn (pc := 1439) rfl dL_law_1439
        refine go_if (fun h80 => ?_) (fun h80 => ?_)
        · refine go_tableIn (pc := 33) (tgt := 1440) 38 h80 dL_law_33 (by decide) (by decide) rfl (by decide) ?_
          refine go_aload_n (pc := 1440) (j := 1) (i := 1) dL_law_1440 rfl rfl ?_
          refine go_aload_n (pc := 1441) (j := 0) (i := 0) dL_law_1441 rfl rfl ?_
          refine go_iload_n (pc := 1442) (j := 3) (i := 3) dL_law_1442 rfl rfl ?_
          refine go_iconst (pc := 1443) (v := 1) dL_law_1443 (by decide) ?_
          refine go_iadd (pc := 1444) dL_law_1444 ?_
          refine go_sald (pc := 1445) t_x0 dL_law_1445 ?_
          refine go_aload_n (pc := 1446) (j := 0) (i := 0) dL_law_1446 rfl rfl ?_
          refine go_iload_n (pc := 1447) (j := 3) (i := 3) dL_law_1447 rfl rfl ?_
          refine go_iconst (pc := 1448) (v := 2) dL_law_1448 (by decide) ?_
          refine go_iadd (pc := 1449) dL_law_1449 ?_
          refine go_sald (pc := 1450) t_x0 dL_law_1450 ?_
          refine go_callVI (pc := 1451) (ci := 0) (ct_X0_told x1 (mI u x0 (xN (x3 + 1))) (mI u x0 (xN (x3 + 2))) t_x1) lk_L_174 rfl rfl rfl (by decide) t_x1 ⟨by decide, by decide⟩ (Nat.le_of_ble_eq_true rfl) dL_law_1451 rfl fun v79 u84 => ?_
          refine go_aload_n (pc := 1454) (j := 2) (i := 2) dL_law_1454 rfl rfl ?_
          refine go_aload_n (pc := 1455) (j := 0) (i := 0) dL_law_1455 rfl rfl ?_
          refine go_iload_n (pc := 1456) (j := 3) (i := 3) dL_law_1456 rfl rfl ?_
          refine go_iconst (pc := 1457) (v := 1) dL_law_1457 (by decide) ?_
          refine go_iadd (pc := 1458) dL_law_1458 ?_
          refine go_sald (pc := 1459) t_x0 dL_law_1459 ?_
          refine go_aload_n (pc := 1460) (j := 0) (i := 0) dL_law_1460 rfl rfl ?_
          refine go_iload_n (pc := 1461) (j := 3) (i := 3) dL_law_1461 rfl rfl ?_
          refine go_iconst (pc := 1462) (v := 2) dL_law_1462 (by decide) ?_
          refine go_iadd (pc := 1463) dL_law_1463 ?_
          refine go_sald (pc := 1464) t_x0 dL_law_1464 ?_
          refine go_callVI (pc := 1465) (ci := 3) (ct_X3_told x2 (mI u84 x0 (xN (x3 + 1))) (mI u84 x0 (xN (x3 + 2))) t_x2) lk_L_177 rfl rfl rfl (by decide) t_x2 ⟨by decide, by decide⟩ (Nat.le_of_ble_eq_true rfl) dL_law_1465 rfl fun v80 u85 => ?_
          refine go_icmp_eq (pc := 1468) (tgt := 1605) dL_law_1468 (by decide) (fun h81 => ?_) (fun h81 => ?_)
          · exact go_weak (A' := [(0, .ref x0), (1, .ref x1), (2, .ref x2), (3, .int x3)]) (B' := []) ⟨rfl, rfl, rfl, rfl, trivial⟩ rfl (fun q h => by cases h) (hj1 u85 trivial)
          · refine go_iconst (pc := 1471) (v := 0) dL_law_1471 (by decide) ?_
            exact go_zreturn (pc := 1472) rfl dL_law_1472
        refine go_if (fun h82 => ?_) (fun h82 => ?_)
        · refine go_tableIn (pc := 33) (tgt := 1473) 39 h82 dL_law_33 (by decide) (by decide) rfl (by decide) ?_
          refine go_aload_n (pc := 1473) (j := 1) (i := 1) dL_law_1473 rfl rfl ?_
          refine go_aload_n (pc := 1474) (j := 0) (i := 0) dL_law_1474 rfl rfl ?_
          refine go_iload_n (pc := 1475) (j := 3) (i := 3) dL_law_1475 rfl rfl ?_
          refine go_iconst (pc := 1476) (v := 1) dL_law_1476 (by decide) ?_
          refine go_iadd (pc := 1477) dL_law_1477 ?_
          refine go_sald (pc := 1478) t_x0 dL_law_1478 ?_
          refine go_aload_n (pc := 1479) (j := 0) (i := 0) dL_law_1479 rfl rfl ?_
          refine go_iload_n (pc := 1480) (j := 3) (i := 3) dL_law_1480 rfl rfl ?_
          refine go_iconst (pc := 1481) (v := 2) dL_law_1481 (by decide) ?_
          refine go_iadd (pc := 1482) dL_law_1482 ?_
          refine go_sald (pc := 1483) t_x0 dL_law_1483 ?_
          refine go_aload_n (pc := 1484) (j := 0) (i := 0) dL_law_1484 rfl rfl ?_
          refine go_iload_n (pc := 1485) (j := 3) (i := 3) dL_law_1485 rfl rfl ?_
          refine go_iconst (pc := 1486) (v := 3) dL_law_1486 (by decide) ?_
          refine go_iadd (pc := 1487) dL_law_1487 ?_
          refine go_sald (pc := 1488) t_x0 dL_law_1488 ?_
          refine go_callVI (pc := 1489) (ci := 0) (ct_X0_check x1 (mI u x0 (xN (x3 + 1))) (mI u x0 (xN (x3 + 2))) (mI u x0 (xN (x3 + 3))) t_x1) lk_L_178 rfl rfl rfl (by decide) t_x1 ⟨by decide, by decide⟩ (Nat.le_of_ble_eq_true rfl) dL_law_1489 rfl fun v81 u86 => ?_
          refine go_aload_n (pc := 1492) (j := 2) (i := 2) dL_law_1492 rfl rfl ?_
          refine go_aload_n (pc := 1493) (j := 0) (i := 0) dL_law_1493 rfl rfl ?_
          refine go_iload_n (pc := 1494) (j := 3) (i := 3) dL_law_1494 rfl rfl ?_
          refine go_iconst (pc := 1495) (v := 1) dL_law_1495 (by decide) ?_
          refine go_iadd (pc := 1496) dL_law_1496 ?_
          refine go_sald (pc := 1497) t_x0 dL_law_1497 ?_
          refine go_aload_n (pc := 1498) (j := 0) (i := 0) dL_law_1498 rfl rfl ?_
          refine go_iload_n (pc := 1499) (j := 3) (i := 3) dL_law_1499 rfl rfl ?_
          refine go_iconst (pc := 1500) (v := 2) dL_law_1500 (by decide) ?_
          refine go_iadd (pc := 1501) dL_law_1501 ?_
          refine go_sald (pc := 1502) t_x0 dL_law_1502 ?_
          refine go_aload_n (pc := 1503) (j := 0) (i := 0) dL_law_1503 rfl rfl ?_
          refine go_iload_n (pc := 1504) (j := 3) (i := 3) dL_law_1504 rfl rfl ?_
          refine go_iconst (pc := 1505) (v := 3) dL_law_1505 (by decide) ?_
          refine go_iadd (pc := 1506) dL_law_1506 ?_
          refine go_sald (pc := 1507) t_x0 dL_law_1507 ?_
          refine go_callVI (pc := 1508) (ci := 3) (ct_X3_check x2 (mI u86 x0 (xN (x3 + 1))) (mI u86 x0 (xN (x3 + 2))) (mI u86 x0 (xN (x3 + 3))) t_x2) lk_L_181 rfl rfl rfl (by decide) t_x2 ⟨by decide, by decide⟩ (Nat.le_of_ble_eq_true rfl) dL_law_1508 rfl fun v82 u87 => ?_
          refine go_icmp_eq (pc := 1511) (tgt := 1605) dL_law_1511 (by decide) (fun h83 => ?_) (fun h83 => ?_)
          · exact go_weak (A' := [(0, .ref x0), (1, .ref x1), (2, .ref x2), (3, .int x3)]) (B' := []) ⟨rfl, rfl, rfl, rfl, trivial⟩ rfl (fun q h => by cases h) (hj1 u87 trivial)
          · refine go_iconst (pc := 1514) (v := 0) dL_law_1514 (by decide) ?_
            exact go_zreturn (pc := 1515) rfl dL_law_1515
        refine go_if (fun h84 => ?_) (fun h84 => ?_)
        · refine go_tableIn (pc := 33) (tgt := 1516) 40 h84 dL_law_33 (by decide) (by decide) rfl (by decide) ?_
          refine go_aload_n (pc := 1516) (j := 1) (i := 1) dL_law_1516 rfl rfl ?_
          refine go_aload_n (pc := 1517) (j := 0) (i := 0) dL_law_1517 rfl rfl ?_
          refine go_iload_n (pc := 1518) (j := 3) (i := 3) dL_law_1518 rfl rfl ?_
          refine go_iconst (pc := 1519) (v := 1) dL_law_1519 (by decide) ?_
          refine go_iadd (pc := 1520) dL_law_1520 ?_
          refine go_sald (pc := 1521) t_x0 dL_law_1521 ?_
          refine go_aload_n (pc := 1522) (j := 0) (i := 0) dL_law_1522 rfl rfl ?_
          refine go_iload_n (pc := 1523) (j := 3) (i := 3) dL_law_1523 rfl rfl ?_
          refine go_iconst (pc := 1524) (v := 2) dL_law_1524 (by decide) ?_
          refine go_iadd (pc := 1525) dL_law_1525 ?_
          refine go_sald (pc := 1526) t_x0 dL_law_1526 ?_
          refine go_callVI (pc := 1527) (ci := 0) (ct_X0_is x1 (mI u x0 (xN (x3 + 1))) (mI u x0 (xN (x3 + 2))) t_x1) lk_L_182 rfl rfl rfl (by decide) t_x1 ⟨by decide, by decide⟩ (Nat.le_of_ble_eq_true rfl) dL_law_1527 rfl fun v83 u88 => ?_
          refine go_aload_n (pc := 1530) (j := 2) (i := 2) dL_law_1530 rfl rfl ?_
          refine go_aload_n (pc := 1531) (j := 0) (i := 0) dL_law_1531 rfl rfl ?_
          refine go_iload_n (pc := 1532) (j := 3) (i := 3) dL_law_1532 rfl rfl ?_
          refine go_iconst (pc := 1533) (v := 1) dL_law_1533 (by decide) ?_
          refine go_iadd (pc := 1534) dL_law_1534 ?_
          refine go_sald (pc := 1535) t_x0 dL_law_1535 ?_
          refine go_aload_n (pc := 1536) (j := 0) (i := 0) dL_law_1536 rfl rfl ?_
          refine go_iload_n (pc := 1537) (j := 3) (i := 3) dL_law_1537 rfl rfl ?_
          refine go_iconst (pc := 1538) (v := 2) dL_law_1538 (by decide) ?_
          refine go_iadd (pc := 1539) dL_law_1539 ?_
          refine go_sald (pc := 1540) t_x0 dL_law_1540 ?_
          refine go_callVI (pc := 1541) (ci := 3) (ct_X3_is x2 (mI u88 x0 (xN (x3 + 1))) (mI u88 x0 (xN (x3 + 2))) t_x2) lk_L_185 rfl rfl rfl (by decide) t_x2 ⟨by decide, by decide⟩ (Nat.le_of_ble_eq_true rfl) dL_law_1541 rfl fun v84 u89 => ?_
          refine go_icmp_eq (pc := 1544) (tgt := 1605) dL_law_1544 (by decide) (fun h85 => ?_) (fun h85 => ?_)
          · exact go_weak (A' := [(0, .ref x0), (1, .ref x1), (2, .ref x2), (3, .int x3)]) (B' := []) ⟨rfl, rfl, rfl, rfl, trivial⟩ rfl (fun q h => by cases h) (hj1 u89 trivial)
          · refine go_iconst (pc := 1547) (v := 0) dL_law_1547 (by decide) ?_
            exact go_zreturn (pc := 1548) rfl dL_law_1548
        refine go_if (fun h86 => ?_) (fun h86 => ?_)
        · refine go_tableIn (pc := 33) (tgt := 1549) 41 h86 dL_law_33 (by decide) (by decide) rfl (by decide) ?_
          refine go_aload_n (pc := 1549) (j := 1) (i := 1) dL_law_1549 rfl rfl ?_
          refine go_aload_n (pc := 1550) (j := 0) (i := 0) dL_law_1550 rfl rfl ?_
          refine go_iload_n (pc := 1551) (j := 3) (i := 3) dL_law_1551 rfl rfl ?_
          refine go_iconst (pc := 1552) (v := 1) dL_law_1552 (by decide) ?_
          refine go_iadd (pc := 1553) dL_law_1553 ?_
          refine go_sald (pc := 1554) t_x0 dL_law_1554 ?_
          refine go_aload_n (pc := 1555) (j := 0) (i := 0) dL_law_1555 rfl rfl ?_
          refine go_iload_n (pc := 1556) (j := 3) (i := 3) dL_law_1556 rfl rfl ?_
          refine go_iconst (pc := 1557) (v := 2) dL_law_1557 (by decide) ?_
          refine go_iadd (pc := 1558) dL_law_1558 ?_
          refine go_sald (pc := 1559) t_x0 dL_law_1559 ?_
          refine go_callVI (pc := 1560) (ci := 0) (ct_X0_has x1 (mI u x0 (xN (x3 + 1))) (mI u x0 (xN (x3 + 2))) t_x1) lk_L_186 rfl rfl rfl (by decide) t_x1 ⟨by decide, by decide⟩ (Nat.le_of_ble_eq_true rfl) dL_law_1560 rfl fun v85 u90 => ?_
          refine go_aload_n (pc := 1563) (j := 2) (i := 2) dL_law_1563 rfl rfl ?_
          refine go_aload_n (pc := 1564) (j := 0) (i := 0) dL_law_1564 rfl rfl ?_
          refine go_iload_n (pc := 1565) (j := 3) (i := 3) dL_law_1565 rfl rfl ?_
          refine go_iconst (pc := 1566) (v := 1) dL_law_1566 (by decide) ?_
          refine go_iadd (pc := 1567) dL_law_1567 ?_
          refine go_sald (pc := 1568) t_x0 dL_law_1568 ?_
          refine go_aload_n (pc := 1569) (j := 0) (i := 0) dL_law_1569 rfl rfl ?_
          refine go_iload_n (pc := 1570) (j := 3) (i := 3) dL_law_1570 rfl rfl ?_
          refine go_iconst (pc := 1571) (v := 2) dL_law_1571 (by decide) ?_
          refine go_iadd (pc := 1572) dL_law_1572 ?_
          refine go_sald (pc := 1573) t_x0 dL_law_1573 ?_
          refine go_callVI (pc := 1574) (ci := 3) (ct_X3_has x2 (mI u90 x0 (xN (x3 + 1))) (mI u90 x0 (xN (x3 + 2))) t_x2) lk_L_189 rfl rfl rfl (by decide) t_x2 ⟨by decide, by decide⟩ (Nat.le_of_ble_eq_true rfl) dL_law_1574 rfl fun v86 u91 => ?_
          refine go_icmp_eq (pc := 1577) (tgt := 1605) dL_law_1577 (by decide) (fun h87 => ?_) (fun h87 => ?_)
          · exact go_weak (A' := [(0, .ref x0), (1, .ref x1), (2, .ref x2), (3, .int x3)]) (B' := []) ⟨rfl, rfl, rfl, rfl, trivial⟩ rfl (fun q h => by cases h) (hj1 u91 trivial)
          · refine go_iconst (pc := 1580) (v := 0) dL_law_1580 (by decide) ?_
            exact go_zreturn (pc := 1581) rfl dL_law_1581
        refine go_if (fun h88 => ?_) (fun h88 => ?_)
        · refine go_tableIn (pc := 33) (tgt := 1582) 42 h88 dL_law_33 (by decide) (by decide) rfl (by decide) ?_
          refine go_aload_n (pc := 1582) (j := 1) (i := 1) dL_law_1582 rfl rfl ?_
          refine go_aload_n (pc := 1583) (j := 0) (i := 0) dL_law_1583 rfl rfl ?_
          refine go_iload_n (pc := 1584) (j := 3) (i := 3) dL_law_1584 rfl rfl ?_
          refine go_iconst (pc := 1585) (v := 1) dL_law_1585 (by decide) ?_
          refine go_iadd (pc := 1586) dL_law_1586 ?_
          refine go_sald (pc := 1587) t_x0 dL_law_1587 ?_
          refine go_callVI (pc := 1588) (ci := 0) (ct_X0_count x1 (mI u x0 (xN (x3 + 1))) t_x1) lk_L_190 rfl rfl rfl (by decide) t_x1 ⟨by decide, by decide⟩ (Nat.le_of_ble_eq_true rfl) dL_law_1588 rfl fun v87 u92 => ?_
          refine go_aload_n (pc := 1591) (j := 2) (i := 2) dL_law_1591 rfl rfl ?_
          refine go_aload_n (pc := 1592) (j := 0) (i := 0) dL_law_1592 rfl rfl ?_
          refine go_iload_n (pc := 1593) (j := 3) (i := 3) dL_law_1593 rfl rfl ?_
          refine go_iconst (pc := 1594) (v := 1) dL_law_1594 (by decide) ?_
          refine go_iadd (pc := 1595) dL_law_1595 ?_
          refine go_sald (pc := 1596) t_x0 dL_law_1596 ?_
          refine go_callVI (pc := 1597) (ci := 3) (ct_X3_count x2 (mI u92 x0 (xN (x3 + 1))) t_x2) lk_L_193 rfl rfl rfl (by decide) t_x2 ⟨by decide, by decide⟩ (Nat.le_of_ble_eq_true rfl) dL_law_1597 rfl fun v88 u93 => ?_
          refine go_icmp_eq (pc := 1600) (tgt := 1605) dL_law_1600 (by decide) (fun h89 => ?_) (fun h89 => ?_)
          · exact go_weak (A' := [(0, .ref x0), (1, .ref x1), (2, .ref x2), (3, .int x3)]) (B' := []) ⟨rfl, rfl, rfl, rfl, trivial⟩ rfl (fun q h => by cases h) (hj1 u93 trivial)
          · refine go_iconst (pc := 1603) (v := 0) dL_law_1603 (by decide) ?_
            exact go_zreturn (pc := 1604) rfl dL_law_1604
        refine go_tableD (pc := 33) (x := ((mI u x0 (xN x3)) &&& 63)) (tgt := 1605) dL_law_33 (by decide) (fun a b => ?_) ?_
        · rcases (show Int32.toInt ((mI u x0 (xN x3)) &&& 63) = 0 ∨ Int32.toInt ((mI u x0 (xN x3)) &&& 63) = 1 ∨ Int32.toInt ((mI u x0 (xN x3)) &&& 63) = 2 ∨ Int32.toInt ((mI u x0 (xN x3)) &&& 63) = 3 ∨ Int32.toInt ((mI u x0 (xN x3)) &&& 63) = 4 ∨ Int32.toInt ((mI u x0 (xN x3)) &&& 63) = 5 ∨ Int32.toInt ((mI u x0 (xN x3)) &&& 63) = 6 ∨ Int32.toInt ((mI u x0 (xN x3)) &&& 63) = 7 ∨ Int32.toInt ((mI u x0 (xN x3)) &&& 63) = 8 ∨ Int32.toInt ((mI u x0 (xN x3)) &&& 63) = 9 ∨ Int32.toInt ((mI u x0 (xN x3)) &&& 63) = 10 ∨ Int32.toInt ((mI u x0 (xN x3)) &&& 63) = 11 ∨ Int32.toInt ((mI u x0 (xN x3)) &&& 63) = 12 ∨ Int32.toInt ((mI u x0 (xN x3)) &&& 63) = 13 ∨ Int32.toInt ((mI u x0 (xN x3)) &&& 63) = 14 ∨ Int32.toInt ((mI u x0 (xN x3)) &&& 63) = 15 ∨ Int32.toInt ((mI u x0 (xN x3)) &&& 63) = 16 ∨ Int32.toInt ((mI u x0 (xN x3)) &&& 63) = 17 ∨ Int32.toInt ((mI u x0 (xN x3)) &&& 63) = 18 ∨ Int32.toInt ((mI u x0 (xN x3)) &&& 63) = 19 ∨ Int32.toInt ((mI u x0 (xN x3)) &&& 63) = 20 ∨ Int32.toInt ((mI u x0 (xN x3)) &&& 63) = 21 ∨ Int32.toInt ((mI u x0 (xN x3)) &&& 63) = 22 ∨ Int32.toInt ((mI u x0 (xN x3)) &&& 63) = 23 ∨ Int32.toInt ((mI u x0 (xN x3)) &&& 63) = 24 ∨ Int32.toInt ((mI u x0 (xN x3)) &&& 63) = 25 ∨ Int32.toInt ((mI u x0 (xN x3)) &&& 63) = 26 ∨ Int32.toInt ((mI u x0 (xN x3)) &&& 63) = 27 ∨ Int32.toInt ((mI u x0 (xN x3)) &&& 63) = 28 ∨ Int32.toInt ((mI u x0 (xN x3)) &&& 63) = 29 ∨ Int32.toInt ((mI u x0 (xN x3)) &&& 63) = 30 ∨ Int32.toInt ((mI u x0 (xN x3)) &&& 63) = 31 ∨ Int32.toInt ((mI u x0 (xN x3)) &&& 63) = 32 ∨ Int32.toInt ((mI u x0 (xN x3)) &&& 63) = 33 ∨ Int32.toInt ((mI u x0 (xN x3)) &&& 63) = 34 ∨ Int32.toInt ((mI u x0 (xN x3)) &&& 63) = 35 ∨ Int32.toInt ((mI u x0 (xN x3)) &&& 63) = 36 ∨ Int32.toInt ((mI u x0 (xN x3)) &&& 63) = 37 ∨ Int32.toInt ((mI u x0 (xN x3)) &&& 63) = 38 ∨ Int32.toInt ((mI u x0 (xN x3)) &&& 63) = 39 ∨ Int32.toInt ((mI u x0 (xN x3)) &&& 63) = 40 ∨ Int32.toInt ((mI u x0 (xN x3)) &&& 63) = 41 ∨ Int32.toInt ((mI u x0 (xN x3)) &&& 63) = 42 by omega) with e | e | e | e | e | e | e | e | e | e | e | e | e | e | e | e | e | e | e | e | e | e | e | e | e | e | e | e | e | e | e | e | e | e | e | e | e | e | e | e | e | e | e
          · exact absurd (sw_eq (v := 0) (e.trans (by decide))) h2
          · exact absurd (sw_eq (v := 1) (e.trans (by decide))) h4
          · exact absurd (sw_eq (v := 2) (e.trans (by decide))) h6
          · exact absurd (sw_eq (v := 3) (e.trans (by decide))) h8
          · exact absurd (sw_eq (v := 4) (e.trans (by decide))) h10
          · exact absurd (sw_eq (v := 5) (e.trans (by decide))) h12
          · exact absurd (sw_eq (v := 6) (e.trans (by decide))) h14
          · exact absurd (sw_eq (v := 7) (e.trans (by decide))) h16
          · exact absurd (sw_eq (v := 8) (e.trans (by decide))) h18
          · exact absurd (sw_eq (v := 9) (e.trans (by decide))) h20
          · exact absurd (sw_eq (v := 10) (e.trans (by decide))) h22
          · exact absurd (sw_eq (v := 11) (e.trans (by decide))) h24
          · exact absurd (sw_eq (v := 12) (e.trans (by decide))) h26
          · exact absurd (sw_eq (v := 13) (e.trans (by decide))) h28
          · exact absurd (sw_eq (v := 14) (e.trans (by decide))) h30
          · exact absurd (sw_eq (v := 15) (e.trans (by decide))) h32
          · exact absurd (sw_eq (v := 16) (e.trans (by decide))) h34
          · exact absurd (sw_eq (v := 17) (e.trans (by decide))) h36
          · exact absurd (sw_eq (v := 18) (e.trans (by decide))) h38
          · exact absurd (sw_eq (v := 19) (e.trans (by decide))) h40
          · exact absurd (sw_eq (v := 20) (e.trans (by decide))) h42
          · exact absurd (sw_eq (v := 21) (e.trans (by decide))) h44
          · exact absurd (sw_eq (v := 22) (e.trans (by decide))) h46
          · exact absurd (sw_eq (v := 23) (e.trans (by decide))) h48
          · exact absurd (sw_eq (v := 24) (e.trans (by decide))) h50
          · exact absurd (sw_eq (v := 25) (e.trans (by decide))) h52
          · exact absurd (sw_eq (v := 26) (e.trans (by decide))) h54
          · exact absurd (sw_eq (v := 27) (e.trans (by decide))) h56
          · exact absurd (sw_eq (v := 28) (e.trans (by decide))) h58
          · exact absurd (sw_eq (v := 29) (e.trans (by decide))) h60
          · exact absurd (sw_eq (v := 30) (e.trans (by decide))) h62
          · exact absurd (sw_eq (v := 31) (e.trans (by decide))) h64
          · exact absurd (sw_eq (v := 32) (e.trans (by decide))) h68
          · exact absurd (sw_eq (v := 33) (e.trans (by decide))) h70
          · exact absurd (sw_eq (v := 34) (e.trans (by decide))) h72
          · exact absurd (sw_eq (v := 35) (e.trans (by decide))) h74
          · exact absurd (sw_eq (v := 36) (e.trans (by decide))) h76
          · exact absurd (sw_eq (v := 37) (e.trans (by decide))) h78
          · exact absurd (sw_eq (v := 38) (e.trans (by decide))) h80
          · exact absurd (sw_eq (v := 39) (e.trans (by decide))) h82
          · exact absurd (sw_eq (v := 40) (e.trans (by decide))) h84
          · exact absurd (sw_eq (v := 41) (e.trans (by decide))) h86
          · exact absurd (sw_eq (v := 42) (e.trans (by decide))) h88
        · exact go_weak (A' := [(0, .ref x0), (1, .ref x1), (2, .ref x2), (3, .int x3)]) (B' := []) ⟨rfl, rfl, rfl, rfl, trivial⟩ rfl (fun q h => by cases h) (hj1 u trivial)
end
def f_L_law (u : zM) : Option (Int32 × zM) := lt (nx u 0) fun n1 => lt (mkc u 0 0 35) fun u1 => bd (f_X0_init n1 u1) fun v1 u2 => lt (nx u2 3) fun n2 => lt (mkc u2 3 0 97) fun u3 => bd (f_X3_init n2 u3) fun v2 u4 => f_L_law_L18 (nm 30 0) n1 n2 zFu 0 u4
set_option maxHeartbeats 4000000 in
theorem g_L_law {c0 s0 : Nat} {tbv : List ExceptionTableEntry} (u : zM) : Go R_law cL_law 4 (some .boolean) false 2367 67420 tbv (obT) (zQ rvI) c0 s0 0 [(0, .ref (nm 30 0))] [] [] u (f_L_law u) := by
  unfold f_L_law
  refine go_new (pc := 0) (ci := 0) (σ := 0) (N := 35) na_L_7 (by decide) (by decide) rfl dL_law_0 fun n1 u1 t_n1 => ?_
  refine go_dupA (pc := 3) dL_law_3 ?_
  refine go_callI (pc := 4) (ct_X0_init n1 t_n1) lk_L_9 rfl ⟨by decide, by decide⟩ (Nat.le_of_ble_eq_true rfl) dL_law_4 rfl fun v1 u2 => ?_
  refine go_astore_n (pc := 7) (j := 1) (i := 1) (A' := [(0, .ref (nm 30 0)), (1, .ref n1)]) rfl (by decide) rfl rfl rfl dL_law_7 ?_
  refine go_new (pc := 8) (ci := 3) (σ := 3) (N := 97) na_L_10 (by decide) (by decide) rfl dL_law_8 fun n2 u3 t_n2 => ?_
  refine go_dupA (pc := 11) dL_law_11 ?_
  refine go_callI (pc := 12) (ct_X3_init n2 t_n2) lk_L_12 rfl ⟨by decide, by decide⟩ (Nat.le_of_ble_eq_true rfl) dL_law_12 rfl fun v2 u4 => ?_
  refine go_astore_n (pc := 15) (j := 2) (i := 2) (A' := [(0, .ref (nm 30 0)), (1, .ref n1), (2, .ref n2)]) rfl (by decide) rfl rfl rfl dL_law_15 ?_
  refine go_iconst (pc := 16) (v := 0) dL_law_16 (by decide) ?_
  refine go_istore_n (pc := 17) (j := 3) (i := 3) (A' := [(0, .ref (nm 30 0)), (1, .ref n1), (2, .ref n2), (3, .int 0)]) rfl (by decide) rfl rfl rfl dL_law_17 ?_
  exact go_weak (A' := [(0, .ref (nm 30 0)), (1, .ref n1), (2, .ref n2), (3, .int 0)]) (B' := []) ⟨rfl, rfl, rfl, rfl, trivial⟩ rfl (fun q h => by cases h) (g_L_law_L18 (nm 30 0) n1 n2 (by decide) t_n1 t_n2 zFu 0 u4)

