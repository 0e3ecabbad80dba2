set_option maxRecDepth 100000
set_option maxHeartbeats 4000000 in
theorem ini_walk {L : Nat} {xs : Nat → Int32} {P : Int32 → zM → Prop} (g : ∀ u, Lay0 L xs u → Ini (f_L_law_L18 (nm 30 0) 0 3 zFu 0 u) P) (h0 : Fc L xs (zU0 L xs) [0, 17, 50, 51, 20, 21, 237, 269, 301, 333, 365, 397, 429, 78, 1, 46, 205, 2, 19, 18, 109, 141, 173, 461, 493, 525, 557, 589, 621, 3, 23, 653, 55, 685, 87, 717, 749, 781, 813, 845, 877, 909, 941, 973, 1005, 1037, 1069, 1101, 1133, 1165, 1197, 1229, 1261, 1293, 1325, 1357, 1389, 1421, 1453, 1485, 1517, 1549, 1581, 1613, 16, 1645, 1677, 1709, 1741, 110, 24, 119, 1773, 151, 1805, 1837, 1869, 26, 58, 1901, 1933, 1965, 1997, 2029, 2061, 2093, 2125, 2157, 2189, 2221, 2253, 2285, 2317, 2349, 2381, 2413, 15, 2445, 2477, 2509, 2541, 2573, 25, 47, 183, 2605, 215, 2637, 2669, 2701, 2733, 2765, 4, 13, 45, 5, 6, 8, 12, 10, 22, 9, 14, 77, 11, 48] [] [] [] [] false 0 0) : Ini (f_L_law (zU0 L xs)) P := by
  unfold f_L_law
  refine rO h0 (by decide) fun u1 h1 => ?_
  refine rB ?_
  unfold f_X0_init
  refine rG (by decide) ?_
  refine rM h1 (by decide) fun u2 h2 => ?_
  refine rS h2 (by decide) fun u3 h3 => ?_
  refine rG (by decide) ?_
  refine rM h3 (by decide) fun u4 h4 => ?_
  refine rS h4 (by decide) fun u5 h5 => ?_
  refine rG (by decide) ?_
  refine rM h5 (by decide) fun u6 h6 => ?_
  refine rS h6 (by decide) fun u7 h7 => ?_
  refine rG (by decide) ?_
  refine rM h7 (by decide) fun u8 h8 => ?_
  refine rS h8 (by decide) fun u9 h9 => ?_
  refine rG (by decide) ?_
  refine rM h9 (by decide) fun u10 h10 => ?_
  refine rS h10 (by decide) fun u11 h11 => ?_
  refine rG (by decide) ?_
  refine rM h11 (by decide) fun u12 h12 => ?_
  refine rS h12 (by decide) fun u13 h13 => ?_
  refine rG (by decide) ?_
  refine rM h13 (by decide) fun u14 h14 => ?_
  refine rS h14 (by decide) fun u15 h15 => ?_
  refine rG (by decide) ?_
  refine rM h15 (by decide) fun u16 h16 => ?_
  refine rS h16 (by decide) fun u17 h17 => ?_
  refine rG (by decide) ?_
  refine rM h17 (by decide) fun u18 h18 => ?_
  refine rS h18 (by decide) fun u19 h19 => ?_
  refine rG (by decide) ?_
  refine rM h19 (by decide) fun u20 h20 => ?_
  refine rS h20 (by decide) fun u21 h21 => ?_
  refine rG (by decide) ?_
  refine rM h21 (by decide) fun u22 h22 => ?_
  refine rS h22 (by decide) fun u23 h23 => ?_
  refine rG (by decide) ?_
  refine rM h23 (by decide) fun u24 h24 => ?_
  refine rS h24 (by decide) fun u25 h25 => ?_
  refine rG (by decide) ?_
  refine rM h25 (by decide) fun u26 h26 => ?_
  refine rS h26 (by decide) fun u27 h27 => ?_
  refine rO h27 (by decide) fun u28 h28 => ?_
  refine rB ?_
  unfold f_X1_init
  refine rG (by decide) ?_
  refine rM h28 (by decide) fun u29 h29 => ?_
  refine rS h29 (by decide) fun u30 h30 => ?_
  refine rG (by decide) ?_
  refine rM h30 (by decide) fun u31 h31 => ?_
  refine rS h31 (by decide) fun u32 h32 => ?_
  refine rE ?_
  refine rS h32 (by decide) fun u33 h33 => ?_
  refine rO h33 (by decide) fun u34 h34 => ?_
  refine rB ?_
  unfold f_X2_init
  refine rS h34 (by decide) fun u35 h35 => ?_
  refine rG (by decide) ?_
  refine rM h35 (by decide) fun u36 h36 => ?_
  refine rS h36 (by decide) fun u37 h37 => ?_
  refine rG (by decide) ?_
  refine rM h37 (by decide) fun u38 h38 => ?_
  refine rS h38 (by decide) fun u39 h39 => ?_
  refine rG (by decide) ?_
  refine rM h39 (by decide) fun u40 h40 => ?_
  refine rS h40 (by decide) fun u41 h41 => ?_
  refine rG (by decide) ?_
  refine rM h41 (by decide) fun u42 h42 => ?_
  refine rS h42 (by decide) fun u43 h43 => ?_
  refine rG (by decide) ?_
  refine rM h43 (by decide) fun u44 h44 => ?_
  refine rS h44 (by decide) fun u45 h45 => ?_
  refine rE ?_
  refine rS h45 (by decide) fun u46 h46 => ?_
  refine rG (by decide) ?_
  refine rM h46 (by decide) fun u47 h47 => ?_
  refine rS h47 (by decide) fun u48 h48 => ?_
  refine rG (by decide) ?_
  refine rM h48 (by decide) fun u49 h49 => ?_
  refine rS h49 (by decide) fun u50 h50 => ?_
  refine rG (by decide) ?_
  refine rM h50 (by decide) fun u51 h51 => ?_
  refine rS h51 (by decide) fun u52 h52 => ?_
  refine rG (by decide) ?_
  refine rM h52 (by decide) fun u53 h53 => ?_
  refine rS h53 (by decide) fun u54 h54 => ?_
  refine rG (by decide) ?_
  refine rM h54 (by decide) fun u55 h55 => ?_
  refine rS h55 (by decide) fun u56 h56 => ?_
  refine rG (by decide) ?_
  refine rM h56 (by decide) fun u57 h57 => ?_
  refine rS h57 (by decide) fun u58 h58 => ?_
  refine rE ?_
  refine rO h58 (by decide) fun u59 h59 => ?_
  refine rB ?_
  unfold f_X3_init
  refine r2 h59 (by decide) (by decide) fun u60 k60 h60 => ?_
  refine rS h60 (by decide) fun u61 h61 => ?_
  refine r2 h61 (by decide) (by decide) fun u62 k62 h62 => ?_
  refine rS h62 (by decide) fun u63 h63 => ?_
  refine r2 h63 (by decide) (by decide) fun u64 k64 h64 => ?_
  refine rS h64 (by decide) fun u65 h65 => ?_
  refine rG (by decide) ?_
  refine rM h65 (by decide) fun u66 h66 => ?_
  refine rS h66 (by decide) fun u67 h67 => ?_
  refine rG (by decide) ?_
  refine rM h67 (by decide) fun u68 h68 => ?_
  refine rS h68 (by decide) fun u69 h69 => ?_
  refine rG (by decide) ?_
  refine rM h69 (by decide) fun u70 h70 => ?_
  refine rS h70 (by decide) fun u71 h71 => ?_
  refine rG (by decide) ?_
  refine rM h71 (by decide) fun u72 h72 => ?_
  refine rS h72 (by decide) fun u73 h73 => ?_
  refine rG (by decide) ?_
  refine rM h73 (by decide) fun u74 h74 => ?_
  refine rS h74 (by decide) fun u75 h75 => ?_
  refine rG (by decide) ?_
  refine rM h75 (by decide) fun u76 h76 => ?_
  refine rS h76 (by decide) fun u77 h77 => ?_
  refine rG (by decide) ?_
  refine rM h77 (by decide) fun u78 h78 => ?_
  refine rS h78 (by decide) fun u79 h79 => ?_
  refine rG (by decide) ?_
  refine rM h79 (by decide) fun u80 h80 => ?_
  refine rS h80 (by decide) fun u81 h81 => ?_
  refine rG (by decide) ?_
  refine rM h81 (by decide) fun u82 h82 => ?_
  refine rS h82 (by decide) fun u83 h83 => ?_
  refine rG (by decide) ?_
  refine rM h83 (by decide) fun u84 h84 => ?_
  refine rS h84 (by decide) fun u85 h85 => ?_
  refine rG (by decide) ?_
  refine rM h85 (by decide) fun u86 h86 => ?_
  refine rS h86 (by decide) fun u87 h87 => ?_
  refine rG (by decide) ?_
  refine rM h87 (by decide) fun u88 h88 => ?_
  refine rS h88 (by decide) fun u89 h89 => ?_
  refine rG (by decide) ?_
  refine rM h89 (by decide) fun u90 h90 => ?_
  refine rS h90 (by decide) fun u91 h91 => ?_
  refine rG (by decide) ?_
  refine rM h91 (by decide) fun u92 h92 => ?_
  refine rS h92 (by decide) fun u93 h93 => ?_
  refine rG (by decide) ?_
  refine rM h93 (by decide) fun u94 h94 => ?_
  refine rS h94 (by decide) fun u95 h95 => ?_
  refine rG (by decide) ?_
  refine rM h95 (by decide) fun u96 h96 => ?_
  refine rS h96 (by decide) fun u97 h97 => ?_
  refine rG (by decide) ?_
  refine rM h97 (by decide) fun u98 h98 => ?_
  refine rS h98 (by decide) fun u99 h99 => ?_
  refine rG (by decide) ?_
  refine rM h99 (by decide) fun u100 h100 => ?_
  refine rS h100 (by decide) fun u101 h101 => ?_
  refine rG (by decide) ?_
  refine rM h101 (by decide) fun u102 h102 => ?_
  refine rS h102 (by decide) fun u103 h103 => ?_
  refine rG (by decide) ?_
  refine rM h103 (by decide) fun u104 h104 => ?_
  refine rS h104 (by decide) fun u105 h105 => ?_
  refine rG (by decide) ?_
  refine rM h105 (by decide) fun u106 h106 => ?_
  refine rS h106 (by decide) fun u107 h107 => ?_
  refine rG (by decide) ?_
  refine rM h107 (by decide) fun u108 h108 => ?_
  refine rS h108 (by decide) fun u109 h109 => ?_
  refine rG (by decide) ?_
  refine rM h109 (by decide) fun u110 h110 => ?_
  refine rS h110 (by decide) fun u111 h111 => ?_
  refine rG (by decide) ?_
  refine rM h111 (by decide) fun u112 h112 => ?_
  refine rS h112 (by decide) fun u113 h113 => ?_
  refine rG (by decide) ?_
  refine rM h113 (by decide) fun u114 h114 => ?_
  refine rS h114 (by decide) fun u115 h115 => ?_
  refine rG (by decide) ?_
  refine rM h115 (by decide) fun u116 h116 => ?_
  refine rS h116 (by decide) fun u117 h117 => ?_
  refine rG (by decide) ?_
  refine rM h117 (by decide) fun u118 h118 => ?_
  refine rS h118 (by decide) fun u119 h119 => ?_
  refine rG (by decide) ?_
  refine rM h119 (by decide) fun u120 h120 => ?_
  refine rS h120 (by decide) fun u121 h121 => ?_
  refine rG (by decide) ?_
  refine rM h121 (by decide) fun u122 h122 => ?_
  refine rS h122 (by decide) fun u123 h123 => ?_
  refine rG (by decide) ?_
  refine rM h123 (by decide) fun u124 h124 => ?_
  refine rS h124 (by decide) fun u125 h125 => ?_
  refine rG (by decide) ?_
  refine rM h125 (by decide) fun u126 h126 => ?_
  refine rS h126 (by decide) fun u127 h127 => ?_
  refine rG (by decide) ?_
  refine rM h127 (by decide) fun u128 h128 => ?_
  refine rS h128 (by decide) fun u129 h129 => ?_
  refine rG (by decide) ?_
  refine rM h129 (by decide) fun u130 h130 => ?_
  refine rS h130 (by decide) fun u131 h131 => ?_
  refine rG (by decide) ?_
  refine rM h131 (by decide) fun u132 h132 => ?_
  refine rS h132 (by decide) fun u133 h133 => ?_
  refine r3 rfl rfl rfl h133 (by decide) (by decide) (by decide) (by decide) (by decide) fun u134 h134 => ?_
  refine rS h134 (by decide) fun u135 h135 => ?_
  refine r2 h135 (by decide) (by decide) fun u136 k136 h136 => ?_
  refine rS h136 (by decide) fun u137 h137 => ?_
  refine rG (by decide) ?_
  refine rM h137 (by decide) fun u138 h138 => ?_
  refine rS h138 (by decide) fun u139 h139 => ?_
  refine rG (by decide) ?_
  refine rM h139 (by decide) fun u140 h140 => ?_
  refine rS h140 (by decide) fun u141 h141 => ?_
  refine rG (by decide) ?_
  refine rO h141 (by decide) fun u142 h142 => ?_
  refine rX h142 (len := xN 5) List.mem_cons_self (by decide) ?_
  refine rS h142 (by decide) fun u143 h143 => ?_
  refine rX h143 (len := xN 5) List.mem_cons_self (by decide) ?_
  refine rS h143 (by decide) fun u144 h144 => ?_
  refine rX h144 (len := xN 5) List.mem_cons_self (by decide) ?_
  refine rS h144 (by decide) fun u145 h145 => ?_
  refine rX h145 (len := xN 5) List.mem_cons_self (by decide) ?_
  refine rS h145 (by decide) fun u146 h146 => ?_
  refine rX h146 (len := xN 5) List.mem_cons_self (by decide) ?_
  refine rS h146 (by decide) fun u147 h147 => ?_
  refine rS h147 (by decide) fun u148 h148 => ?_
  refine rG (by decide) ?_
  refine rO h148 (by decide) fun u149 h149 => ?_
  refine rX h149 (len := xN 13) List.mem_cons_self (by decide) ?_
  refine rS h149 (by decide) fun u150 h150 => ?_
  refine rX h150 (len := xN 13) List.mem_cons_self (by decide) ?_
  refine rS h150 (by decide) fun u151 h151 => ?_
  refine rX h151 (len := xN 13) List.mem_cons_self (by decide) ?_
  refine rS h151 (by decide) fun u152 h152 => ?_
  refine rX h152 (len := xN 13) List.mem_cons_self (by decide) ?_
  refine rS h152 (by decide) fun u153 h153 => ?_
  refine rX h153 (len := xN 13) List.mem_cons_self (by decide) ?_
  refine rS h153 (by decide) fun u154 h154 => ?_
  refine rX h154 (len := xN 13) List.mem_cons_self (by decide) ?_
  refine rS h154 (by decide) fun u155 h155 => ?_
  refine rX h155 (len := xN 13) List.mem_cons_self (by decide) ?_
  refine rS h155 (by decide) fun u156 h156 => ?_
  refine rX h156 (len := xN 13) List.mem_cons_self (by decide) ?_
  refine rS h156 (by decide) fun u157 h157 => ?_
  refine rX h157 (len := xN 13) List.mem_cons_self (by decide) ?_
  refine rS h157 (by decide) fun u158 h158 => ?_
  refine rX h158 (len := xN 13) List.mem_cons_self (by decide) ?_
  refine rS h158 (by decide) fun u159 h159 => ?_
  refine rX h159 (len := xN 13) List.mem_cons_self (by decide) ?_
  refine rS h159 (by decide) fun u160 h160 => ?_
  refine rX h160 (len := xN 13) List.mem_cons_self (by decide) ?_
  refine rS h160 (by decide) fun u161 h161 => ?_
  refine rX h161 (len := xN 13) List.mem_cons_self (by decide) ?_
  refine rS h161 (by decide) fun u162 h162 => ?_
  refine rS h162 (by decide) fun u163 h163 => ?_
  refine rG (by decide) ?_
  refine rM h163 (by decide) fun u164 h164 => ?_
  refine rS h164 (by decide) fun u165 h165 => ?_
  refine rG (by decide) ?_
  refine rM h165 (by decide) fun u166 h166 => ?_
  refine rS h166 (by decide) fun u167 h167 => ?_
  refine rG (by decide) ?_
  refine rM h167 (by decide) fun u168 h168 => ?_
  refine rS h168 (by decide) fun u169 h169 => ?_
  refine rG (by decide) ?_
  refine rM h169 (by decide) fun u170 h170 => ?_
  refine rS h170 (by decide) fun u171 h171 => ?_
  refine rG (by decide) ?_
  refine rM h171 (by decide) fun u172 h172 => ?_
  refine rS h172 (by decide) fun u173 h173 => ?_
  refine rG (by decide) ?_
  refine rM h173 (by decide) fun u174 h174 => ?_
  refine rS h174 (by decide) fun u175 h175 => ?_
  refine rG (by decide) ?_
  refine rM h175 (by decide) fun u176 h176 => ?_
  refine rS h176 (by decide) fun u177 h177 => ?_
  refine rG (by decide) ?_
  refine rM h177 (by decide) fun u178 h178 => ?_
  refine rS h178 (by decide) fun u179 h179 => ?_
  refine rG (by decide) ?_
  refine rM h179 (by decide) fun u180 h180 => ?_
  refine rS h180 (by decide) fun u181 h181 => ?_
  refine rG (by decide) ?_
  refine rM h181 (by decide) fun u182 h182 => ?_
  refine rS h182 (by decide) fun u183 h183 => ?_
  refine rG (by decide) ?_
  refine rM h183 (by decide) fun u184 h184 => ?_
  refine rS h184 (by decide) fun u185 h185 => ?_
  refine rG (by decide) ?_
  refine rM h185 (by decide) fun u186 h186 => ?_
  refine rS h186 (by decide) fun u187 h187 => ?_
  refine rG (by decide) ?_
  refine rM h187 (by decide) fun u188 h188 => ?_
  refine rS h188 (by decide) fun u189 h189 => ?_
  refine rG (by decide) ?_
  refine rM h189 (by decide) fun u190 h190 => ?_
  refine rS h190 (by decide) fun u191 h191 => ?_
  refine rG (by decide) ?_
  refine rM h191 (by decide) fun u192 h192 => ?_
  refine rS h192 (by decide) fun u193 h193 => ?_
  refine rG (by decide) ?_
  refine rM h193 (by decide) fun u194 h194 => ?_
  refine rS h194 (by decide) fun u195 h195 => ?_
  refine rG (by decide) ?_
  refine rM h195 (by decide) fun u196 h196 => ?_
  refine rS h196 (by decide) fun u197 h197 => ?_
  refine rG (by decide) ?_
  refine rM h197 (by decide) fun u198 h198 => ?_
  refine rS h198 (by decide) fun u199 h199 => ?_
  refine rG (by decide) ?_
  refine rM h199 (by decide) fun u200 h200 => ?_
  refine rS h200 (by decide) fun u201 h201 => ?_
  refine rG (by decide) ?_
  refine rM h201 (by decide) fun u202 h202 => ?_
  refine rS h202 (by decide) fun u203 h203 => ?_
  refine rG (by decide) ?_
  refine rM h203 (by decide) fun u204 h204 => ?_
  refine rS h204 (by decide) fun u205 h205 => ?_
  refine rG (by decide) ?_
  refine rM h205 (by decide) fun u206 h206 => ?_
  refine rS h206 (by decide) fun u207 h207 => ?_
  refine rG (by decide) ?_
  refine rM h207 (by decide) fun u208 h208 => ?_
  refine rS h208 (by decide) fun u209 h209 => ?_
  refine r2 h209 (by decide) (by decide) fun u210 k210 h210 => ?_
  refine rS h210 (by decide) fun u211 h211 => ?_
  refine r2 h211 (by decide) (by decide) fun u212 k212 h212 => ?_
  refine rS h212 (by decide) fun u213 h213 => ?_
  refine r2 h213 (by decide) (by decide) fun u214 k214 h214 => ?_
  refine rS h214 (by decide) fun u215 h215 => ?_
  refine rG (by decide) ?_
  refine rM h215 (by decide) fun u216 h216 => ?_
  refine rS h216 (by decide) fun u217 h217 => ?_
  refine rG (by decide) ?_
  refine rM h217 (by decide) fun u218 h218 => ?_
  refine rS h218 (by decide) fun u219 h219 => ?_
  refine rG (by decide) ?_
  refine rM h219 (by decide) fun u220 h220 => ?_
  refine rS h220 (by decide) fun u221 h221 => ?_
  refine rG (by decide) ?_
  refine rM h221 (by decide) fun u222 h222 => ?_
  refine rS h222 (by decide) fun u223 h223 => ?_
  refine rE ?_
  exact g _ (Lay0.of h223 (by decide +kernel) (by decide +kernel) (by decide +kernel) (by decide +kernel) (by decide +kernel) (by decide +kernel))
theorem law_start {L : Nat} {xs : Nat → Int32} {P : Int32 → zM → Prop} (g : ∀ u, Lay0 L xs u → Ini (f_L_law_L18 (nm 30 0) 0 3 zFu 0 u) P) : Ini (f_L_law (zU0 L xs)) P := by
  refine ini_walk g ⟨?_, fun _ h => (by cases h), fun _ h => (by cases h), fun _ h => (by cases h), fun _ h => (by cases h), fun h => (by cases h), fun n k h1 h2 => ?_, fun _ _ => rfl, ⟨rfl, fun j => by simp [mI, zU0]⟩, fun i hi => ⟨?_, fun j => ?_⟩, rfl, rfl⟩
  · have h : ∀ s ∈ [0, 17, 50, 51, 20, 21, 237, 269, 301, 333, 365, 397, 429, 78, 1, 46, 205, 2, 19, 18, 109, 141, 173, 461, 493, 525, 557, 589, 621, 3, 23, 653, 55, 685, 87, 717, 749, 781, 813, 845, 877, 909, 941, 973, 1005, 1037, 1069, 1101, 1133, 1165, 1197, 1229, 1261, 1293, 1325, 1357, 1389, 1421, 1453, 1485, 1517, 1549, 1581, 1613, 16, 1645, 1677, 1709, 1741, 110, 24, 119, 1773, 151, 1805, 1837, 1869, 26, 58, 1901, 1933, 1965, 1997, 2029, 2061, 2093, 2125, 2157, 2189, 2221, 2253, 2285, 2317, 2349, 2381, 2413, 15, 2445, 2477, 2509, 2541, 2573, 25, 47, 183, 2605, 215, 2637, 2669, 2701, 2733, 2765, 4, 13, 45, 5, 6, 8, 12, 10, 22, 9, 14, 77, 11, 48], s ≠ 27 ∧ s ≠ 28 ∧ s ≠ 30 := by decide +kernel
    intro s hs
    obtain ⟨h1, h2, h3⟩ := h s hs
    show (if s = 27 then 27 else if s = 28 then 27 else if s = 30 then 1 else 0) = 0
    rw [if_neg h1, if_neg h2, if_neg h3]
  · show (if n = nm 30 0 then xs k else if nS n = 28 then _ else 0) = 0
    rw [if_neg (fun e => h2 (by rw [e]; rfl)), if_neg h1]
  · exact (zU0_wf.2.1 i hi).2.2.1
  · exact (zU0_wf.2.1 i hi).2.2.2 j
