set_option maxRecDepth 100000
section GP
variable {β : Type} {own : String} {cc : ByteArray} {nL : Nat} {rt : Option FieldType} {ini : Bool} {fr lo : Nat} {tb : List ExceptionTableEntry} {ob : β → zM → Prop} {Qf : zQf β} {c0 s0 pc : Nat} {A : List (Nat × Value)} {B : List (Nat × Int64)} {st : List Value} {u : zM} {o : Option (β × zM)}
/-- a step that leaves memory and locals alone -/
theorem go_pure {pc' : Nat} {st st' : List Value} (hok : zWf u → okL u A → okS u st → okS u st')
    (hw : ∀ (K : zK) (p : Program) (l : Launch) (e : Env) (R : Room) (s : State) (m : MethodId) (args : Array Value) (below : List Frame) (meth : Method) (c : Code) (H : Heap) (locs : List Loc) (ls : Array Slot) (cells slots : Nat) (Q : State → Prop), zCx own cc nL rt ini fr lo tb K p R s m args meth c → lzHas K u ls nL A B → zWf u → okS u st → Cz K s u H →
      W p l e R s m args below meth c H locs cells slots Q (F0 m pc' ls (st'.map (cv K u))) → W p l e R s m args below meth c H locs cells slots Q (F0 m pc ls (st.map (cv K u))))
    (g : Go own cc nL rt ini fr lo tb ob Qf c0 s0 pc' A B st' u o) : Go own cc nL rt ini fr lo tb ob Qf c0 s0 pc A B st u o := by
  intro b u' ho hwf hA hS
  obtain ⟨h1, h2⟩ := g b u' ho hwf hA (hok hwf hA hS)
  exact ⟨h1, fun K p l e R s m args below meth c H locs ls hc g1 g2 g3 g4 hC hV hL => hw K p l e R s m args below meth c H locs ls _ _ _ hc hL hwf hS hC (h2 K p l e R s m args below meth c H locs ls hc g1 g2 g3 g4 hC hV hL)⟩
/-- a branch -/
theorem go_branch {pc1 pc2 : Nat} {st st' : List Value} {P : Prop} [Decidable P] {o1 o2 : Option (β × zM)} (hok : okS u st → okS u st')
    (hw : ∀ (K : zK) (p : Program) (l : Launch) (e : Env) (R : Room) (s : State) (m : MethodId) (args : Array Value) (below : List Frame) (meth : Method) (c : Code) (H : Heap) (locs : List Loc) (ls : Array Slot) (cells slots : Nat) (Q : State → Prop), zCx own cc nL rt ini fr lo tb K p R s m args meth c →
      (P → W p l e R s m args below meth c H locs cells slots Q (F0 m pc1 ls (st'.map (cv K u)))) → (¬ P → W p l e R s m args below meth c H locs cells slots Q (F0 m pc2 ls (st'.map (cv K u)))) → W p l e R s m args below meth c H locs cells slots Q (F0 m pc ls (st.map (cv K u))))
    (g1 : P → Go own cc nL rt ini fr lo tb ob Qf c0 s0 pc1 A B st' u o1) (g2 : ¬ P → Go own cc nL rt ini fr lo tb ob Qf c0 s0 pc2 A B st' u o2) : Go own cc nL rt ini fr lo tb ob Qf c0 s0 pc A B st u (if P then o1 else o2) := by
  intro b u' ho hwf hA hS
  by_cases hP : P
  · rw [if_pos hP] at ho
    obtain ⟨h1, h2⟩ := g1 hP b u' ho hwf hA (hok hS)
    exact ⟨h1, fun K p l e R s m args below meth c H locs ls hc q1 q2 q3 q4 hC hV hL => hw K p l e R s m args below meth c H locs ls _ _ _ hc (fun _ => h2 K p l e R s m args below meth c H locs ls hc q1 q2 q3 q4 hC hV hL) (fun n => absurd hP n)⟩
  · rw [if_neg hP] at ho
    obtain ⟨h1, h2⟩ := g2 hP b u' ho hwf hA (hok hS)
    exact ⟨h1, fun K p l e R s m args below meth c H locs ls hc q1 q2 q3 q4 hC hV hL => hw K p l e R s m args below meth c H locs ls _ _ _ hc (fun n => absurd n hP) (fun _ => h2 K p l e R s m args below meth c H locs ls hc q1 q2 q3 q4 hC hV hL)⟩
/-- fewer locals -/
theorem go_weak {A' : List (Nat × Value)} {B' : List (Nat × Int64)} (hA' : aSub A' A) (hU : aUq A' = true) (hB' : ∀ q ∈ B', q ∈ B) (g : Go own cc nL rt ini fr lo tb ob Qf c0 s0 pc A' B' st u o) : Go own cc nL rt ini fr lo tb ob Qf c0 s0 pc A B st u o := by
  intro b u' ho hwf hA hS
  have hs := aSub_mem hA'
  obtain ⟨h1, h2⟩ := g b u' ho hwf ⟨fun q hq => hA.1 q (hs q hq), hU⟩ hS
  exact ⟨h1, fun K p l e R s m args below meth c H locs ls hc q1 q2 q3 q4 hC hV hL => h2 K p l e R s m args below meth c H locs ls hc q1 q2 q3 q4 hC hV (hL.sub hs hB')⟩

theorem go_iadd {x y : Int32} (d : decode cc pc = .ok (.iadd, 1))  (g : Go own cc nL rt ini fr lo tb ob Qf c0 s0 (pc + 1) A B (.int (x + y) :: st) u o) : Go own cc nL rt ini fr lo tb ob Qf c0 s0 pc A B (.int y :: .int x :: st) u o :=
  go_pure (pc' := pc + 1) (st := .int y :: .int x :: st) (st' := .int (x + y) :: st) (fun hwf hA hS => okS_cons.mpr ⟨okV_int, (okS_cons.mp (okS_cons.mp hS).2).2⟩) (fun K p l e R s m args below meth c H locs ls cells slots Q hc hL hwf hS hC k => lv_iadd hc.1 hc.2.1 d k) g
theorem go_isub {x y : Int32} (d : decode cc pc = .ok (.isub, 1))  (g : Go own cc nL rt ini fr lo tb ob Qf c0 s0 (pc + 1) A B (.int (x - y) :: st) u o) : Go own cc nL rt ini fr lo tb ob Qf c0 s0 pc A B (.int y :: .int x :: st) u o :=
  go_pure (pc' := pc + 1) (st := .int y :: .int x :: st) (st' := .int (x - y) :: st) (fun hwf hA hS => okS_cons.mpr ⟨okV_int, (okS_cons.mp (okS_cons.mp hS).2).2⟩) (fun K p l e R s m args below meth c H locs ls cells slots Q hc hL hwf hS hC k => lv_isub hc.1 hc.2.1 d k) g
theorem go_imul {x y : Int32} (d : decode cc pc = .ok (.imul, 1))  (g : Go own cc nL rt ini fr lo tb ob Qf c0 s0 (pc + 1) A B (.int (x * y) :: st) u o) : Go own cc nL rt ini fr lo tb ob Qf c0 s0 pc A B (.int y :: .int x :: st) u o :=
  go_pure (pc' := pc + 1) (st := .int y :: .int x :: st) (st' := .int (x * y) :: st) (fun hwf hA hS => okS_cons.mpr ⟨okV_int, (okS_cons.mp (okS_cons.mp hS).2).2⟩) (fun K p l e R s m args below meth c H locs ls cells slots Q hc hL hwf hS hC k => lv_imul hc.1 hc.2.1 d k) g
theorem go_iand {x y : Int32} (d : decode cc pc = .ok (.iand, 1))  (g : Go own cc nL rt ini fr lo tb ob Qf c0 s0 (pc + 1) A B (.int (x &&& y) :: st) u o) : Go own cc nL rt ini fr lo tb ob Qf c0 s0 pc A B (.int y :: .int x :: st) u o :=
  go_pure (pc' := pc + 1) (st := .int y :: .int x :: st) (st' := .int (x &&& y) :: st) (fun hwf hA hS => okS_cons.mpr ⟨okV_int, (okS_cons.mp (okS_cons.mp hS).2).2⟩) (fun K p l e R s m args below meth c H locs ls cells slots Q hc hL hwf hS hC k => lv_iand hc.1 hc.2.1 d k) g
theorem go_ior {x y : Int32} (d : decode cc pc = .ok (.ior, 1))  (g : Go own cc nL rt ini fr lo tb ob Qf c0 s0 (pc + 1) A B (.int (x ||| y) :: st) u o) : Go own cc nL rt ini fr lo tb ob Qf c0 s0 pc A B (.int y :: .int x :: st) u o :=
  go_pure (pc' := pc + 1) (st := .int y :: .int x :: st) (st' := .int (x ||| y) :: st) (fun hwf hA hS => okS_cons.mpr ⟨okV_int, (okS_cons.mp (okS_cons.mp hS).2).2⟩) (fun K p l e R s m args below meth c H locs ls cells slots Q hc hL hwf hS hC k => lv_ior hc.1 hc.2.1 d k) g
theorem go_ixor {x y : Int32} (d : decode cc pc = .ok (.ixor, 1))  (g : Go own cc nL rt ini fr lo tb ob Qf c0 s0 (pc + 1) A B (.int (x ^^^ y) :: st) u o) : Go own cc nL rt ini fr lo tb ob Qf c0 s0 pc A B (.int y :: .int x :: st) u o :=
  go_pure (pc' := pc + 1) (st := .int y :: .int x :: st) (st' := .int (x ^^^ y) :: st) (fun hwf hA hS => okS_cons.mpr ⟨okV_int, (okS_cons.mp (okS_cons.mp hS).2).2⟩) (fun K p l e R s m args below meth c H locs ls cells slots Q hc hL hwf hS hC k => lv_ixor hc.1 hc.2.1 d k) g
theorem go_ishl {x y : Int32} (d : decode cc pc = .ok (.ishl, 1))  (g : Go own cc nL rt ini fr lo tb ob Qf c0 s0 (pc + 1) A B (.int (x <<< (y &&& 31)) :: st) u o) : Go own cc nL rt ini fr lo tb ob Qf c0 s0 pc A B (.int y :: .int x :: st) u o :=
  go_pure (pc' := pc + 1) (st := .int y :: .int x :: st) (st' := .int (x <<< (y &&& 31)) :: st) (fun hwf hA hS => okS_cons.mpr ⟨okV_int, (okS_cons.mp (okS_cons.mp hS).2).2⟩) (fun K p l e R s m args below meth c H locs ls cells slots Q hc hL hwf hS hC k => lv_ishl hc.1 hc.2.1 d k) g
theorem go_ishr {x y : Int32} (d : decode cc pc = .ok (.ishr, 1))  (g : Go own cc nL rt ini fr lo tb ob Qf c0 s0 (pc + 1) A B (.int (x >>> (y &&& 31)) :: st) u o) : Go own cc nL rt ini fr lo tb ob Qf c0 s0 pc A B (.int y :: .int x :: st) u o :=
  go_pure (pc' := pc + 1) (st := .int y :: .int x :: st) (st' := .int (x >>> (y &&& 31)) :: st) (fun hwf hA hS => okS_cons.mpr ⟨okV_int, (okS_cons.mp (okS_cons.mp hS).2).2⟩) (fun K p l e R s m args below meth c H locs ls cells slots Q hc hL hwf hS hC k => lv_ishr hc.1 hc.2.1 d k) g
theorem go_iushr {x y : Int32} (d : decode cc pc = .ok (.iushr, 1))  (g : Go own cc nL rt ini fr lo tb ob Qf c0 s0 (pc + 1) A B (.int ((x.toUInt32 >>> (y.toUInt32 &&& Int32.toUInt32 31)).toInt32) :: st) u o) : Go own cc nL rt ini fr lo tb ob Qf c0 s0 pc A B (.int y :: .int x :: st) u o :=
  go_pure (pc' := pc + 1) (st := .int y :: .int x :: st) (st' := .int ((x.toUInt32 >>> (y.toUInt32 &&& Int32.toUInt32 31)).toInt32) :: st) (fun hwf hA hS => okS_cons.mpr ⟨okV_int, (okS_cons.mp (okS_cons.mp hS).2).2⟩) (fun K p l e R s m args below meth c H locs ls cells slots Q hc hL hwf hS hC k => lv_iushr hc.1 hc.2.1 d rfl k) g
theorem go_idiv {x y : Int32}  (d : decode cc pc = .ok (.idiv, 1)) (hne : ¬ y = 0) (g : Go own cc nL rt ini fr lo tb ob Qf c0 s0 (pc + 1) A B (.int (x / y) :: st) u o) : Go own cc nL rt ini fr lo tb ob Qf c0 s0 pc A B (.int y :: .int x :: st) u o :=
  go_pure (pc' := pc + 1) (st := .int y :: .int x :: st) (st' := .int (x / y) :: st) (fun hwf hA hS => okS_cons.mpr ⟨okV_int, (okS_cons.mp (okS_cons.mp hS).2).2⟩) (fun K p l e R s m args below meth c H locs ls cells slots Q hc hL hwf hS hC k => lv_idiv hc.1 hc.2.1 d hne k) g
theorem go_irem {x y : Int32}  (d : decode cc pc = .ok (.irem, 1)) (hne : ¬ y = 0) (g : Go own cc nL rt ini fr lo tb ob Qf c0 s0 (pc + 1) A B (.int (x - x / y * y) :: st) u o) : Go own cc nL rt ini fr lo tb ob Qf c0 s0 pc A B (.int y :: .int x :: st) u o :=
  go_pure (pc' := pc + 1) (st := .int y :: .int x :: st) (st' := .int (x - x / y * y) :: st) (fun hwf hA hS => okS_cons.mpr ⟨okV_int, (okS_cons.mp (okS_cons.mp hS).2).2⟩) (fun K p l e R s m args below meth c H locs ls cells slots Q hc hL hwf hS hC k => lv_irem hc.1 hc.2.1 d hne k) g
theorem go_ladd {x y : Int64} (d : decode cc pc = .ok (.ladd, 1))  (g : Go own cc nL rt ini fr lo tb ob Qf c0 s0 (pc + 1) A B (.long (x + y) :: st) u o) : Go own cc nL rt ini fr lo tb ob Qf c0 s0 pc A B (.long y :: .long x :: st) u o :=
  go_pure (pc' := pc + 1) (st := .long y :: .long x :: st) (st' := .long (x + y) :: st) (fun hwf hA hS => okS_cons.mpr ⟨okV_long, (okS_cons.mp (okS_cons.mp hS).2).2⟩) (fun K p l e R s m args below meth c H locs ls cells slots Q hc hL hwf hS hC k => lv_ladd hc.1 hc.2.1 d k) g
theorem go_lsub {x y : Int64} (d : decode cc pc = .ok (.lsub, 1))  (g : Go own cc nL rt ini fr lo tb ob Qf c0 s0 (pc + 1) A B (.long (x - y) :: st) u o) : Go own cc nL rt ini fr lo tb ob Qf c0 s0 pc A B (.long y :: .long x :: st) u o :=
  go_pure (pc' := pc + 1) (st := .long y :: .long x :: st) (st' := .long (x - y) :: st) (fun hwf hA hS => okS_cons.mpr ⟨okV_long, (okS_cons.mp (okS_cons.mp hS).2).2⟩) (fun K p l e R s m args below meth c H locs ls cells slots Q hc hL hwf hS hC k => lv_lsub hc.1 hc.2.1 d k) g
theorem go_lmul {x y : Int64} (d : decode cc pc = .ok (.lmul, 1))  (g : Go own cc nL rt ini fr lo tb ob Qf c0 s0 (pc + 1) A B (.long (x * y) :: st) u o) : Go own cc nL rt ini fr lo tb ob Qf c0 s0 pc A B (.long y :: .long x :: st) u o :=
  go_pure (pc' := pc + 1) (st := .long y :: .long x :: st) (st' := .long (x * y) :: st) (fun hwf hA hS => okS_cons.mpr ⟨okV_long, (okS_cons.mp (okS_cons.mp hS).2).2⟩) (fun K p l e R s m args below meth c H locs ls cells slots Q hc hL hwf hS hC k => lv_lmul hc.1 hc.2.1 d k) g
theorem go_ldiv {x y : Int64}  (d : decode cc pc = .ok (.ldiv, 1)) (hne : ¬ y = 0) (g : Go own cc nL rt ini fr lo tb ob Qf c0 s0 (pc + 1) A B (.long (x / y) :: st) u o) : Go own cc nL rt ini fr lo tb ob Qf c0 s0 pc A B (.long y :: .long x :: st) u o :=
  go_pure (pc' := pc + 1) (st := .long y :: .long x :: st) (st' := .long (x / y) :: st) (fun hwf hA hS => okS_cons.mpr ⟨okV_long, (okS_cons.mp (okS_cons.mp hS).2).2⟩) (fun K p l e R s m args below meth c H locs ls cells slots Q hc hL hwf hS hC k => lv_ldiv hc.1 hc.2.1 d hne k) g
theorem go_lcmp {x y : Int64} (d : decode cc pc = .ok (.lcmp, 1))  (g : Go own cc nL rt ini fr lo tb ob Qf c0 s0 (pc + 1) A B (.int (lg_cmp x y) :: st) u o) : Go own cc nL rt ini fr lo tb ob Qf c0 s0 pc A B (.long y :: .long x :: st) u o :=
  go_pure (pc' := pc + 1) (st := .long y :: .long x :: st) (st' := .int (lg_cmp x y) :: st) (fun hwf hA hS => okS_cons.mpr ⟨okV_int, (okS_cons.mp (okS_cons.mp hS).2).2⟩) (fun K p l e R s m args below meth c H locs ls cells slots Q hc hL hwf hS hC k => W.lcmp hc.1 hc.2.1 d k) g
theorem go_i2l {x : Int32} (d : decode cc pc = .ok (.i2l, 1))  (g : Go own cc nL rt ini fr lo tb ob Qf c0 s0 (pc + 1) A B (.long x.toInt64 :: st) u o) : Go own cc nL rt ini fr lo tb ob Qf c0 s0 pc A B (.int x :: st) u o :=
  go_pure (pc' := pc + 1) (st := .int x :: st) (st' := .long x.toInt64 :: st) (fun hwf hA hS => okS_cons.mpr ⟨okV_long, (okS_cons.mp hS).2⟩) (fun K p l e R s m args below meth c H locs ls cells slots Q hc hL hwf hS hC k => lv_i2l hc.1 hc.2.1 d rfl k) g
theorem go_l2i {x : Int64} (d : decode cc pc = .ok (.l2i, 1))  (g : Go own cc nL rt ini fr lo tb ob Qf c0 s0 (pc + 1) A B (.int x.toInt32 :: st) u o) : Go own cc nL rt ini fr lo tb ob Qf c0 s0 pc A B (.long x :: st) u o :=
  go_pure (pc' := pc + 1) (st := .long x :: st) (st' := .int x.toInt32 :: st) (fun hwf hA hS => okS_cons.mpr ⟨okV_int, (okS_cons.mp hS).2⟩) (fun K p l e R s m args below meth c H locs ls cells slots Q hc hL hwf hS hC k => lv_l2i hc.1 hc.2.1 d rfl k) g
theorem go_i2b {x : Int32} (d : decode cc pc = .ok (.i2b, 1))  (g : Go own cc nL rt ini fr lo tb ob Qf c0 s0 (pc + 1) A B (.int x.toInt8.toInt32 :: st) u o) : Go own cc nL rt ini fr lo tb ob Qf c0 s0 pc A B (.int x :: st) u o :=
  go_pure (pc' := pc + 1) (st := .int x :: st) (st' := .int x.toInt8.toInt32 :: st) (fun hwf hA hS => okS_cons.mpr ⟨okV_int, (okS_cons.mp hS).2⟩) (fun K p l e R s m args below meth c H locs ls cells slots Q hc hL hwf hS hC k => lv_i2b hc.1 hc.2.1 d rfl k) g
theorem go_iconst {n : Int} {v : Int32}  (d : decode cc pc = .ok (.iconst n, 1)) (hv : Int32.ofInt n = v) (g : Go own cc nL rt ini fr lo tb ob Qf c0 s0 (pc + 1) A B (.int v :: st) u o) : Go own cc nL rt ini fr lo tb ob Qf c0 s0 pc A B (st) u o :=
  go_pure (pc' := pc + 1) (st := st) (st' := .int v :: st) (fun hwf hA hS => okS_cons.mpr ⟨okV_int, hS⟩) (fun K p l e R s m args below meth c H locs ls cells slots Q hc hL hwf hS hC k => lv_iconst hc.1 hc.2.1 d hv k) g
theorem go_bipush {n : Int} {v : Int32}  (d : decode cc pc = .ok (.bipush n, 2)) (hv : (Int8.ofInt n).toInt32 = v) (g : Go own cc nL rt ini fr lo tb ob Qf c0 s0 (pc + 2) A B (.int v :: st) u o) : Go own cc nL rt ini fr lo tb ob Qf c0 s0 pc A B (st) u o :=
  go_pure (pc' := pc + 2) (st := st) (st' := .int v :: st) (fun hwf hA hS => okS_cons.mpr ⟨okV_int, hS⟩) (fun K p l e R s m args below meth c H locs ls cells slots Q hc hL hwf hS hC k => lv_bipush hc.1 hc.2.1 d hv k) g
theorem go_sipush {n : Int} {v : Int32}  (d : decode cc pc = .ok (.sipush n, 3)) (hv : (Int16.ofInt n).toInt32 = v) (g : Go own cc nL rt ini fr lo tb ob Qf c0 s0 (pc + 3) A B (.int v :: st) u o) : Go own cc nL rt ini fr lo tb ob Qf c0 s0 pc A B (st) u o :=
  go_pure (pc' := pc + 3) (st := st) (st' := .int v :: st) (fun hwf hA hS => okS_cons.mpr ⟨okV_int, hS⟩) (fun K p l e R s m args below meth c H locs ls cells slots Q hc hL hwf hS hC k => lv_sipush hc.1 hc.2.1 d hv k) g
theorem go_lconst {n : Fin 2} {v : Int64}  (d : decode cc pc = .ok (.lconst n, 1)) (hv : Int64.ofNat (n : Nat) = v) (g : Go own cc nL rt ini fr lo tb ob Qf c0 s0 (pc + 1) A B (.long v :: st) u o) : Go own cc nL rt ini fr lo tb ob Qf c0 s0 pc A B (st) u o :=
  go_pure (pc' := pc + 1) (st := st) (st' := .long v :: st) (fun hwf hA hS => okS_cons.mpr ⟨okV_long, hS⟩) (fun K p l e R s m args below meth c H locs ls cells slots Q hc hL hwf hS hC k => lv_lconst hc.1 hc.2.1 d hv k) g
theorem go_ldc {i : Nat} {v : Int32}  (d : decode cc pc = .ok (.ldc i, 2)) (hk : Cond.constant own i v ∈ lw_all) (g : Go own cc nL rt ini fr lo tb ob Qf c0 s0 (pc + 2) A B (.int v :: st) u o) : Go own cc nL rt ini fr lo tb ob Qf c0 s0 pc A B (st) u o :=
  go_pure (pc' := pc + 2) (st := st) (st' := .int v :: st) (fun hwf hA hS => okS_cons.mpr ⟨okV_int, hS⟩) (fun K p l e R s m args below meth c H locs ls cells slots Q hc hL hwf hS hC k => lv_ldc hc.1 hc.2.1 hc.2.2.2.2.1 (hc.2.2.2.2.2.1 _ hk) d k) g
theorem go_ldcw {i : Nat} {v : Int32}  (d : decode cc pc = .ok (.ldc_w i, 3)) (hk : Cond.constant own i v ∈ lw_all) (g : Go own cc nL rt ini fr lo tb ob Qf c0 s0 (pc + 3) A B (.int v :: st) u o) : Go own cc nL rt ini fr lo tb ob Qf c0 s0 pc A B (st) u o :=
  go_pure (pc' := pc + 3) (st := st) (st' := .int v :: st) (fun hwf hA hS => okS_cons.mpr ⟨okV_int, hS⟩) (fun K p l e R s m args below meth c H locs ls cells slots Q hc hL hwf hS hC k => lv_ldcw hc.1 hc.2.1 hc.2.2.2.2.1 (hc.2.2.2.2.2.1 _ hk) d k) g
theorem go_ldc2 {i : Nat} {v : Int64}  (d : decode cc pc = .ok (.ldc2_w i, 3)) (hk : Cond.constantLong own i v ∈ lw_all) (g : Go own cc nL rt ini fr lo tb ob Qf c0 s0 (pc + 3) A B (.long v :: st) u o) : Go own cc nL rt ini fr lo tb ob Qf c0 s0 pc A B (st) u o :=
  go_pure (pc' := pc + 3) (st := st) (st' := .long v :: st) (fun hwf hA hS => okS_cons.mpr ⟨okV_long, hS⟩) (fun K p l e R s m args below meth c H locs ls cells slots Q hc hL hwf hS hC k => lv_ldc2 hc.1 hc.2.1 hc.2.2.2.2.1 (hc.2.2.2.2.2.1 _ hk) d k) g
theorem go_null  (d : decode cc pc = .ok (.aconst_null, 1))  (g : Go own cc nL rt ini fr lo tb ob Qf c0 s0 (pc + 1) A B (.null :: st) u o) : Go own cc nL rt ini fr lo tb ob Qf c0 s0 pc A B (st) u o :=
  go_pure (pc' := pc + 1) (st := st) (st' := .null :: st) (fun hwf hA hS => okS_cons.mpr ⟨okV_null, hS⟩) (fun K p l e R s m args below meth c H locs ls cells slots Q hc hL hwf hS hC k => lv_null hc.1 hc.2.1 d k) g
theorem go_iload_n {j : Fin 4} {i : Nat} {x : Int32}  (d : decode cc pc = .ok (.iload_n j, 1)) (hi : (j : Nat) = i) (h : aGet A i = some (.int x)) (g : Go own cc nL rt ini fr lo tb ob Qf c0 s0 (pc + 1) A B (.int x :: st) u o) : Go own cc nL rt ini fr lo tb ob Qf c0 s0 pc A B (st) u o :=
  go_pure (pc' := pc + 1) (st := st) (st' := .int x :: st) (fun hwf hA hS => okS_cons.mpr ⟨okV_int, hS⟩) (fun K p l e R s m args below meth c H locs ls cells slots Q hc hL hwf hS hC k => lv_iload_n hc.1 hc.2.1 d hi (hL.at h) k) g
theorem go_iload {i : Nat} {x : Int32}  (d : decode cc pc = .ok (.iload i, 2)) (h : aGet A i = some (.int x)) (g : Go own cc nL rt ini fr lo tb ob Qf c0 s0 (pc + 2) A B (.int x :: st) u o) : Go own cc nL rt ini fr lo tb ob Qf c0 s0 pc A B (st) u o :=
  go_pure (pc' := pc + 2) (st := st) (st' := .int x :: st) (fun hwf hA hS => okS_cons.mpr ⟨okV_int, hS⟩) (fun K p l e R s m args below meth c H locs ls cells slots Q hc hL hwf hS hC k => lv_iload hc.1 hc.2.1 d (hL.at h) k) g
theorem go_lload_n {j : Fin 4} {i : Nat} {x : Int64}  (d : decode cc pc = .ok (.lload_n j, 1)) (hi : (j : Nat) = i) (n : Nat) (h : B[n]? = some (i, x)) (g : Go own cc nL rt ini fr lo tb ob Qf c0 s0 (pc + 1) A B (.long x :: st) u o) : Go own cc nL rt ini fr lo tb ob Qf c0 s0 pc A B (st) u o :=
  go_pure (pc' := pc + 1) (st := st) (st' := .long x :: st) (fun hwf hA hS => okS_cons.mpr ⟨okV_long, hS⟩) (fun K p l e R s m args below meth c H locs ls cells slots Q hc hL hwf hS hC k => lv_lload_n hc.1 hc.2.1 d hi (hL.atL n h) k) g
theorem go_lload {i : Nat} {x : Int64}  (d : decode cc pc = .ok (.lload i, 2)) (n : Nat) (h : B[n]? = some (i, x)) (g : Go own cc nL rt ini fr lo tb ob Qf c0 s0 (pc + 2) A B (.long x :: st) u o) : Go own cc nL rt ini fr lo tb ob Qf c0 s0 pc A B (st) u o :=
  go_pure (pc' := pc + 2) (st := st) (st' := .long x :: st) (fun hwf hA hS => okS_cons.mpr ⟨okV_long, hS⟩) (fun K p l e R s m args below meth c H locs ls cells slots Q hc hL hwf hS hC k => lv_lload hc.1 hc.2.1 d (hL.atL n h) k) g
theorem go_aload_n {j : Fin 4} {i n : Nat}  (d : decode cc pc = .ok (.aload_n j, 1)) (hi : (j : Nat) = i) (h : aGet A i = some (.ref n)) (g : Go own cc nL rt ini fr lo tb ob Qf c0 s0 (pc + 1) A B (.ref n :: st) u o) : Go own cc nL rt ini fr lo tb ob Qf c0 s0 pc A B (st) u o :=
  go_pure (pc' := pc + 1) (st := st) (st' := .ref n :: st) (fun hwf hA hS => okS_cons.mpr ⟨(hA.1 _ (aGet_mem h)).1, hS⟩) (fun K p l e R s m args below meth c H locs ls cells slots Q hc hL hwf hS hC k => lv_aload_n hc.1 hc.2.1 d hi (hL.at h) k) g
theorem go_aload {i n : Nat}  (d : decode cc pc = .ok (.aload i, 2)) (h : aGet A i = some (.ref n)) (g : Go own cc nL rt ini fr lo tb ob Qf c0 s0 (pc + 2) A B (.ref n :: st) u o) : Go own cc nL rt ini fr lo tb ob Qf c0 s0 pc A B (st) u o :=
  go_pure (pc' := pc + 2) (st := st) (st' := .ref n :: st) (fun hwf hA hS => okS_cons.mpr ⟨(hA.1 _ (aGet_mem h)).1, hS⟩) (fun K p l e R s m args below meth c H locs ls cells slots Q hc hL hwf hS hC k => lv_aload hc.1 hc.2.1 d (hL.at h) k) g
theorem go_aload_nQ {j : Fin 4} {i : Nat} {r : Option Nat} (d : decode cc pc = .ok (.aload_n j, 1)) (hi : (j : Nat) = i) (h : aGet A i = some (va_rf r)) (g : Go own cc nL rt ini fr lo tb ob Qf c0 s0 (pc + 1) A B (va_rf r :: st) u o) : Go own cc nL rt ini fr lo tb ob Qf c0 s0 pc A B st u o := by
  cases r with
  | none => exact go_pure (pc' := pc + 1) (st := st) (st' := .null :: st) (fun hwf hA hS => okS_cons.mpr ⟨okV_null, hS⟩) (fun K p l e R s m args below meth c H locs ls cells slots Q hc hL hwf hS hC k => lv_aload_nN hc.1 hc.2.1 d hi (hL.at h) k) g
  | some n => exact go_aload_n d hi h g
theorem go_aloadQ {i : Nat} {r : Option Nat} (d : decode cc pc = .ok (.aload i, 2)) (h : aGet A i = some (va_rf r)) (g : Go own cc nL rt ini fr lo tb ob Qf c0 s0 (pc + 2) A B (va_rf r :: st) u o) : Go own cc nL rt ini fr lo tb ob Qf c0 s0 pc A B st u o := by
  cases r with
  | none => exact go_pure (pc' := pc + 2) (st := st) (st' := .null :: st) (fun hwf hA hS => okS_cons.mpr ⟨okV_null, hS⟩) (fun K p l e R s m args below meth c H locs ls cells slots Q hc hL hwf hS hC k => lv_aloadN hc.1 hc.2.1 d (hL.at h) k) g
  | some n => exact go_aload d h g
theorem go_dupI {x : Int32} (d : decode cc pc = .ok (.dup, 1))  (g : Go own cc nL rt ini fr lo tb ob Qf c0 s0 (pc + 1) A B (.int x :: .int x :: st) u o) : Go own cc nL rt ini fr lo tb ob Qf c0 s0 pc A B (.int x :: st) u o :=
  go_pure (pc' := pc + 1) (st := .int x :: st) (st' := .int x :: .int x :: st) (fun hwf hA hS => okS_cons.mpr ⟨okV_int, hS⟩) (fun K p l e R s m args below meth c H locs ls cells slots Q hc hL hwf hS hC k => lv_dup hc.1 hc.2.1 d rfl k) g
theorem go_dupA {n : Nat} (d : decode cc pc = .ok (.dup, 1))  (g : Go own cc nL rt ini fr lo tb ob Qf c0 s0 (pc + 1) A B (.ref n :: .ref n :: st) u o) : Go own cc nL rt ini fr lo tb ob Qf c0 s0 pc A B (.ref n :: st) u o :=
  go_pure (pc' := pc + 1) (st := .ref n :: st) (st' := .ref n :: .ref n :: st) (fun hwf hA hS => okS_cons.mpr ⟨(okS_cons.mp hS).1, hS⟩) (fun K p l e R s m args below meth c H locs ls cells slots Q hc hL hwf hS hC k => lv_dup hc.1 hc.2.1 d rfl k) g
theorem go_popI {x : Int32} (d : decode cc pc = .ok (.pop, 1))  (g : Go own cc nL rt ini fr lo tb ob Qf c0 s0 (pc + 1) A B (st) u o) : Go own cc nL rt ini fr lo tb ob Qf c0 s0 pc A B (.int x :: st) u o :=
  go_pure (pc' := pc + 1) (st := .int x :: st) (st' := st) (fun hwf hA hS => (okS_cons.mp hS).2) (fun K p l e R s m args below meth c H locs ls cells slots Q hc hL hwf hS hC k => lv_pop hc.1 hc.2.1 d rfl k) g
theorem go_popA {r : Option Nat} (d : decode cc pc = .ok (.pop, 1))  (g : Go own cc nL rt ini fr lo tb ob Qf c0 s0 (pc + 1) A B (st) u o) : Go own cc nL rt ini fr lo tb ob Qf c0 s0 pc A B (va_rf r :: st) u o :=
  go_pure (pc' := pc + 1) (st := va_rf r :: st) (st' := st) (fun hwf hA hS => (okS_cons.mp hS).2) (fun K p l e R s m args below meth c H locs ls cells slots Q hc hL hwf hS hC k => lv_pop hc.1 hc.2.1 d (by rw [cat_cv]; exact cat_rf r) k) g
theorem go_dup2 {x : Int32} {n : Nat} (d : decode cc pc = .ok (.dup2, 1))  (g : Go own cc nL rt ini fr lo tb ob Qf c0 s0 (pc + 1) A B (.int x :: .ref n :: .int x :: .ref n :: st) u o) : Go own cc nL rt ini fr lo tb ob Qf c0 s0 pc A B (.int x :: .ref n :: st) u o :=
  go_pure (pc' := pc + 1) (st := .int x :: .ref n :: st) (st' := .int x :: .ref n :: .int x :: .ref n :: st) (fun hwf hA hS => okS_cons.mpr ⟨okV_int, okS_cons.mpr ⟨(okS_cons.mp (okS_cons.mp hS).2).1, hS⟩⟩) (fun K p l e R s m args below meth c H locs ls cells slots Q hc hL hwf hS hC k => lv_dup2_11 hc.1 hc.2.1 d rfl rfl k) g
theorem go_goto {off : Int} {tgt : Nat} (d : decode cc pc = .ok (.goto off, 3)) (ht : (pc : Int) + off = (tgt : Int)) (g : Go own cc nL rt ini fr lo tb ob Qf c0 s0 tgt A B st u o) : Go own cc nL rt ini fr lo tb ob Qf c0 s0 pc A B st u o :=
  go_pure (pc' := tgt) (st := st) (st' := st) (fun hwf hA hS => hS) (fun K p l e R s m args below meth c H locs ls cells slots Q hc hL hwf hS hC k => lv_goto hc.1 hc.2.1 d ht k) g
theorem go_if_eq {x : Int32} {off : Int} {tgt : Nat} {o1 o2 : Option (β × zM)} (d : decode cc pc = .ok (.ifCond .eq off, 3)) (ht : (pc : Int) + off = (tgt : Int)) (g1 : x = 0 → Go own cc nL rt ini fr lo tb ob Qf c0 s0 (tgt) A B st u o1) (g2 : ¬ x = 0 → Go own cc nL rt ini fr lo tb ob Qf c0 s0 (pc + 3) A B st u o2) : Go own cc nL rt ini fr lo tb ob Qf c0 s0 pc A B (.int x :: st) u (if x = 0 then o1 else o2) :=
  go_branch (pc1 := tgt) (pc2 := pc + 3) (st := .int x :: st) (st' := st) (fun hS => (okS_cons.mp hS).2) (fun K p l e R s m args below meth c H locs ls cells slots Q hc kt kf => lv_if_eq hc.1 hc.2.1 d ht kt kf) g1 g2
theorem go_if_ne {x : Int32} {off : Int} {tgt : Nat} {o1 o2 : Option (β × zM)} (d : decode cc pc = .ok (.ifCond .ne off, 3)) (ht : (pc : Int) + off = (tgt : Int)) (g1 : x = 0 → Go own cc nL rt ini fr lo tb ob Qf c0 s0 (pc + 3) A B st u o1) (g2 : ¬ x = 0 → Go own cc nL rt ini fr lo tb ob Qf c0 s0 (tgt) A B st u o2) : Go own cc nL rt ini fr lo tb ob Qf c0 s0 pc A B (.int x :: st) u (if x = 0 then o1 else o2) :=
  go_branch (pc1 := pc + 3) (pc2 := tgt) (st := .int x :: st) (st' := st) (fun hS => (okS_cons.mp hS).2) (fun K p l e R s m args below meth c H locs ls cells slots Q hc kt kf => lv_if_ne hc.1 hc.2.1 d ht (fun n => kf n) (fun n => kt n)) g1 g2
theorem go_if_lt {x : Int32} {off : Int} {tgt : Nat} {o1 o2 : Option (β × zM)} (d : decode cc pc = .ok (.ifCond .lt off, 3)) (ht : (pc : Int) + off = (tgt : Int)) (g1 : x < 0 → Go own cc nL rt ini fr lo tb ob Qf c0 s0 (tgt) A B st u o1) (g2 : ¬ x < 0 → Go own cc nL rt ini fr lo tb ob Qf c0 s0 (pc + 3) A B st u o2) : Go own cc nL rt ini fr lo tb ob Qf c0 s0 pc A B (.int x :: st) u (if x < 0 then o1 else o2) :=
  go_branch (pc1 := tgt) (pc2 := pc + 3) (st := .int x :: st) (st' := st) (fun hS => (okS_cons.mp hS).2) (fun K p l e R s m args below meth c H locs ls cells slots Q hc kt kf => lv_if_lt hc.1 hc.2.1 d ht kt kf) g1 g2
theorem go_if_ge {x : Int32} {off : Int} {tgt : Nat} {o1 o2 : Option (β × zM)} (d : decode cc pc = .ok (.ifCond .ge off, 3)) (ht : (pc : Int) + off = (tgt : Int)) (g1 : 0 ≤ x → Go own cc nL rt ini fr lo tb ob Qf c0 s0 (tgt) A B st u o1) (g2 : ¬ 0 ≤ x → Go own cc nL rt ini fr lo tb ob Qf c0 s0 (pc + 3) A B st u o2) : Go own cc nL rt ini fr lo tb ob Qf c0 s0 pc A B (.int x :: st) u (if 0 ≤ x then o1 else o2) :=
  go_branch (pc1 := tgt) (pc2 := pc + 3) (st := .int x :: st) (st' := st) (fun hS => (okS_cons.mp hS).2) (fun K p l e R s m args below meth c H locs ls cells slots Q hc kt kf => lv_if_ge hc.1 hc.2.1 d ht kt kf) g1 g2
theorem go_if_gt {x : Int32} {off : Int} {tgt : Nat} {o1 o2 : Option (β × zM)} (d : decode cc pc = .ok (.ifCond .gt off, 3)) (ht : (pc : Int) + off = (tgt : Int)) (g1 : 0 < x → Go own cc nL rt ini fr lo tb ob Qf c0 s0 (tgt) A B st u o1) (g2 : ¬ 0 < x → Go own cc nL rt ini fr lo tb ob Qf c0 s0 (pc + 3) A B st u o2) : Go own cc nL rt ini fr lo tb ob Qf c0 s0 pc A B (.int x :: st) u (if 0 < x then o1 else o2) :=
  go_branch (pc1 := tgt) (pc2 := pc + 3) (st := .int x :: st) (st' := st) (fun hS => (okS_cons.mp hS).2) (fun K p l e R s m args below meth c H locs ls cells slots Q hc kt kf => lv_if_gt hc.1 hc.2.1 d ht kt kf) g1 g2
theorem go_if_le {x : Int32} {off : Int} {tgt : Nat} {o1 o2 : Option (β × zM)} (d : decode cc pc = .ok (.ifCond .le off, 3)) (ht : (pc : Int) + off = (tgt : Int)) (g1 : x ≤ 0 → Go own cc nL rt ini fr lo tb ob Qf c0 s0 (tgt) A B st u o1) (g2 : ¬ x ≤ 0 → Go own cc nL rt ini fr lo tb ob Qf c0 s0 (pc + 3) A B st u o2) : Go own cc nL rt ini fr lo tb ob Qf c0 s0 pc A B (.int x :: st) u (if x ≤ 0 then o1 else o2) :=
  go_branch (pc1 := tgt) (pc2 := pc + 3) (st := .int x :: st) (st' := st) (fun hS => (okS_cons.mp hS).2) (fun K p l e R s m args below meth c H locs ls cells slots Q hc kt kf => lv_if_le hc.1 hc.2.1 d ht kt kf) g1 g2
theorem go_icmp_eq {x y : Int32} {off : Int} {tgt : Nat} {o1 o2 : Option (β × zM)} (d : decode cc pc = .ok (.if_icmp .eq off, 3)) (ht : (pc : Int) + off = (tgt : Int)) (g1 : x = y → Go own cc nL rt ini fr lo tb ob Qf c0 s0 (tgt) A B st u o1) (g2 : ¬ x = y → Go own cc nL rt ini fr lo tb ob Qf c0 s0 (pc + 3) A B st u o2) : Go own cc nL rt ini fr lo tb ob Qf c0 s0 pc A B (.int y :: .int x :: st) u (if x = y then o1 else o2) :=
  go_branch (pc1 := tgt) (pc2 := pc + 3) (st := .int y :: .int x :: st) (st' := st) (fun hS => (okS_cons.mp (okS_cons.mp hS).2).2) (fun K p l e R s m args below meth c H locs ls cells slots Q hc kt kf => lv_icmp_eq hc.1 hc.2.1 d ht kt kf) g1 g2
theorem go_icmp_ne {x y : Int32} {off : Int} {tgt : Nat} {o1 o2 : Option (β × zM)} (d : decode cc pc = .ok (.if_icmp .ne off, 3)) (ht : (pc : Int) + off = (tgt : Int)) (g1 : x = y → Go own cc nL rt ini fr lo tb ob Qf c0 s0 (pc + 3) A B st u o1) (g2 : ¬ x = y → Go own cc nL rt ini fr lo tb ob Qf c0 s0 (tgt) A B st u o2) : Go own cc nL rt ini fr lo tb ob Qf c0 s0 pc A B (.int y :: .int x :: st) u (if x = y then o1 else o2) :=
  go_branch (pc1 := pc + 3) (pc2 := tgt) (st := .int y :: .int x :: st) (st' := st) (fun hS => (okS_cons.mp (okS_cons.mp hS).2).2) (fun K p l e R s m args below meth c H locs ls cells slots Q hc kt kf => lv_icmp_ne hc.1 hc.2.1 d ht (fun n => kf n) (fun n => kt n)) g1 g2
theorem go_icmp_lt {x y : Int32} {off : Int} {tgt : Nat} {o1 o2 : Option (β × zM)} (d : decode cc pc = .ok (.if_icmp .lt off, 3)) (ht : (pc : Int) + off = (tgt : Int)) (g1 : x < y → Go own cc nL rt ini fr lo tb ob Qf c0 s0 (tgt) A B st u o1) (g2 : ¬ x < y → Go own cc nL rt ini fr lo tb ob Qf c0 s0 (pc + 3) A B st u o2) : Go own cc nL rt ini fr lo tb ob Qf c0 s0 pc A B (.int y :: .int x :: st) u (if x < y then o1 else o2) :=
  go_branch (pc1 := tgt) (pc2 := pc + 3) (st := .int y :: .int x :: st) (st' := st) (fun hS => (okS_cons.mp (okS_cons.mp hS).2).2) (fun K p l e R s m args below meth c H locs ls cells slots Q hc kt kf => lv_icmp_lt hc.1 hc.2.1 d ht kt kf) g1 g2
theorem go_icmp_ge {x y : Int32} {off : Int} {tgt : Nat} {o1 o2 : Option (β × zM)} (d : decode cc pc = .ok (.if_icmp .ge off, 3)) (ht : (pc : Int) + off = (tgt : Int)) (g1 : y ≤ x → Go own cc nL rt ini fr lo tb ob Qf c0 s0 (tgt) A B st u o1) (g2 : ¬ y ≤ x → Go own cc nL rt ini fr lo tb ob Qf c0 s0 (pc + 3) A B st u o2) : Go own cc nL rt ini fr lo tb ob Qf c0 s0 pc A B (.int y :: .int x :: st) u (if y ≤ x then o1 else o2) :=
  go_branch (pc1 := tgt) (pc2 := pc + 3) (st := .int y :: .int x :: st) (st' := st) (fun hS => (okS_cons.mp (okS_cons.mp hS).2).2) (fun K p l e R s m args below meth c H locs ls cells slots Q hc kt kf => lv_icmp_ge hc.1 hc.2.1 d ht kt kf) g1 g2
theorem go_icmp_gt {x y : Int32} {off : Int} {tgt : Nat} {o1 o2 : Option (β × zM)} (d : decode cc pc = .ok (.if_icmp .gt off, 3)) (ht : (pc : Int) + off = (tgt : Int)) (g1 : y < x → Go own cc nL rt ini fr lo tb ob Qf c0 s0 (tgt) A B st u o1) (g2 : ¬ y < x → Go own cc nL rt ini fr lo tb ob Qf c0 s0 (pc + 3) A B st u o2) : Go own cc nL rt ini fr lo tb ob Qf c0 s0 pc A B (.int y :: .int x :: st) u (if y < x then o1 else o2) :=
  go_branch (pc1 := tgt) (pc2 := pc + 3) (st := .int y :: .int x :: st) (st' := st) (fun hS => (okS_cons.mp (okS_cons.mp hS).2).2) (fun K p l e R s m args below meth c H locs ls cells slots Q hc kt kf => lv_icmp_gt hc.1 hc.2.1 d ht kt kf) g1 g2
theorem go_icmp_le {x y : Int32} {off : Int} {tgt : Nat} {o1 o2 : Option (β × zM)} (d : decode cc pc = .ok (.if_icmp .le off, 3)) (ht : (pc : Int) + off = (tgt : Int)) (g1 : x ≤ y → Go own cc nL rt ini fr lo tb ob Qf c0 s0 (tgt) A B st u o1) (g2 : ¬ x ≤ y → Go own cc nL rt ini fr lo tb ob Qf c0 s0 (pc + 3) A B st u o2) : Go own cc nL rt ini fr lo tb ob Qf c0 s0 pc A B (.int y :: .int x :: st) u (if x ≤ y then o1 else o2) :=
  go_branch (pc1 := tgt) (pc2 := pc + 3) (st := .int y :: .int x :: st) (st' := st) (fun hS => (okS_cons.mp (okS_cons.mp hS).2).2) (fun K p l e R s m args below meth c H locs ls cells slots Q hc kt kf => lv_icmp_le hc.1 hc.2.1 d ht kt kf) g1 g2
end GP
/-! ===== rules with memory ===== -/
/-- the instruction getfield idx of the class own reads the slot k of the class of kind ci -/
def zFA (own : String) (idx ci k : Nat) : Prop := ∃ (C : String) (T : u_T) (N : Nat) (ref : String), zCl[ci]? = some (C, T, N) ∧ (∀ w ∈ u_ws C T N, w ∈ lw_all) ∧ k < N ∧ N = zN ci ∧ ci < 13 ∧
  (Cond.fieldLink own idx ref (T k).2.1 (T k).2.2.1 ∈ lw_all ∨ ∃ host, (own, idx, ref, (T k).2.1, (T k).2.2.1, host) ∈ zNf) ∧ (ref = (T k).1 ∨ Cond.sameField ref (T k).1 (T k).2.1 (T k).2.2.1 ∈ lw_all)
/-- putfield idx writes the slot k, of type ty; fin: a final field, in its own constructor -/
def zPA (fin : Bool) (own : String) (idx ci k : Nat) (ty : FieldType) : Prop := ∃ (C : String) (T : u_T) (N : Nat) (ref : String) (ty0 : Nat → FieldType), zCl[ci]? = some (C, T, N) ∧ (∀ w ∈ u_ws C T N, w ∈ lw_all) ∧ k < N ∧ N = zN ci ∧ ci < 13 ∧
  (∀ j, j < N → parseFieldDescriptor (T j).2.2.1 = some (ty0 j)) ∧ (∀ a, a < N → ∀ b, b < N → a ≠ b → (T a).2.1 ≠ (T b).2.1) ∧
  (Cond.fieldLink own idx ref (T k).2.1 (T k).2.2.1 ∈ lw_all ∨ (fin = false ∧ ∃ host, (own, idx, ref, (T k).2.1, (T k).2.2.1, host) ∈ zNf)) ∧ (ref = (T k).1 ∨ Cond.sameField ref (T k).1 (T k).2.1 (T k).2.2.1 ∈ lw_all) ∧ (T k).2.2.2 = fin ∧ (fin = true → (T k).1 = own) ∧ parseFieldDescriptor (T k).2.2.1 = some ty
theorem zl_get {α : Type} {N k : Nat} (f : Nat → α) (h : k < N) : ((List.range N).map f)[k]? = some (f k) := by
  rw [List.getElem?_map, List.getElem?_range h]; rfl
theorem zl_set {α : Type} {N k : Nat} {f g : Nat → α} (hg : ∀ j, j < N → j ≠ k → g j = f j) (hk : k < N) : (List.range N).map g = ((List.range N).map f).set k (g k) := by
  refine List.ext_getElem? fun j => ?_
  rw [List.getElem?_set]
  by_cases hj : j < N
  · rw [zl_get g hj]
    by_cases e : k = j
    · subst e
      simp [hk]
    · rw [if_neg e, zl_get f hj, hg j hj (Ne.symm e)]
  · have h1 : ((List.range N).map g)[j]? = none := by simp; omega
    have h2 : ((List.range N).map f)[j]? = none := by simp; omega
    rw [h1]
    by_cases e : k = j
    · subst e; omega
    · rw [if_neg e, h2]
theorem zsame {own : String} {args : Array Value} {s : State} {ref : String} {q : String × String × String × Bool} (hts : ∀ w ∈ lw_all, w.before args s = true) (h : ref = q.1 ∨ Cond.sameField ref q.1 q.2.1 q.2.2.1 ∈ lw_all) : ∀ x, s.fieldFound? q.1 q.2.1 q.2.2.1 = some x → s.fieldFound? ref q.2.1 q.2.2.1 = some x := by
  intro x hx
  rcases h with e | e
  · rw [e]; exact hx
  · exact u_same (hts _ e) x hx
section ZW
variable {p : Program} {l : Launch} {e : Env} {R : Room} {s : State} {m : MethodId} {args : Array Value} {below : List Frame} {meth : Method} {c : Code} {H : Heap} {locs : List Loc} {cells slots : Nat} {Q : State → Prop} {cc : ByteArray} {pc : Nat} {ls : Array Slot} {rest : List Value} {D : va_G}
/-- a field is written: the rest of the heap stays -/
theorem zw_put {fin : Bool} {own : String} {idx ci k a : Nat} {ty : FieldType} {A : Nat → Prop} {H0 : Heap} (hF : zPA fin own idx ci k ty) (hexec : p.tables.exec = Jvm.exec) (hb : c.code = cc) (hts : ∀ w ∈ lw_all, w.before args s = true) (hown : s.vm.findClass own = some m.cls) (hK : va_K D zCl [] s) (hnf : ∀ q ∈ zNf, va_Nw (.fieldLinkNest q.1 q.2.1 q.2.2.1 q.2.2.2.1 q.2.2.2.2.1 q.2.2.2.2.2) s) (hin : fin = true → meth.name = "<init>")
    {fs : List Value} (hat : va_at D zCl (a, .inr (ci, fs)) H) (hS0 : va_S A H0 H locs) (hA : A a) {v : Value} (hn : narrow ty v = v) (hfit : fits ty v = true) (hl : zN ci = fs.length) (hdg : decode cc pc = .ok (.putfield idx, 3))
    (kk : ∀ (H1 : Heap) (locs1 : List Loc), H1.size = H.size → (∀ q, q ≠ a → H1[q]? = H[q]?) → va_at D zCl (a, .inr (ci, fs.set k v)) H1 → va_S A H0 H1 locs1 → W p l e R s m args below meth c H1 locs1 cells slots Q (F0 m (pc + 3) ls rest)) : W p l e R s m args below meth c H locs cells slots Q (F0 m pc ls (v :: .ref a :: rest)) := by
  obtain ⟨C, T, N, ref, ty0, hc, hin0, hk, hN, hci, hty, hnm, hlink, hsame, hfin, hdecl, hd⟩ := hF
  have hap := va_apart (own := own) hts hin0 ty0 hty hnm hK hc
  obtain ⟨r, h1, cell, q1, q2, q3, q4⟩ := hat
  have hr : r = (C, T, N) := Option.some.inj (h1.symm.trans hc)
  subst hr
  obtain ⟨hS, hfc, kC, hkC, hkind⟩ := hK.1 ci _ hc
  obtain ⟨cf, kf, fi, f, hi, hsl⟩ := hS k hk
  have hlay := hts _ (hin0 _ (u_in_lay hk))
  unfold u_lay at hlay
  have hsm := zsame (own := own) hts hsame
  have hkl : k < fs.length := by omega
  cases fin with
  | false =>
    rw [if_neg (by rw [hfin]; decide)] at hlay
    have hst := (u_facts hfc hkC (u_lays hts hin0 hk) hi).1
    have h6 := u_store hfc hkC hkind hlay hi hd hn hfit
    rcases hlink with hl1 | ⟨-, host, hl1⟩
    · refine W.putK hexec hb (f := f) ⟨hown, hts _ hl1, ⟨_, _, _, hsm _ hi⟩, hst⟩ (by rw [q2]; exact h6) q1 q3 (by rw [hsl]; exact k2_hasslot (q4 k hk)) rfl rfl hdg fun H' e1 e2 e3 => ?_
      rw [hsl] at e1 ⊢
      exact kk H' _ e2 e3 ⟨_, hc, t_OB.to (V := updV (vp_V fs) k v) ⟨_, e1, q2, q3, t_set q4 hap hk v⟩ (fun j _ => vp_updV_set hkl v j)⟩ (hS0.put e2 e3 hA)
    · refine va_WputK hexec hb (f := f) hown (va_Nw.use rfl (hnf _ hl1)) (hsm _ hi) hst (by rw [q2]; exact h6) q1 q3 (by rw [hsl]; exact k2_hasslot (q4 k hk)) rfl rfl hdg fun H' e1 e2 e3 => ?_
      rw [hsl] at e1 ⊢
      exact kk H' _ e2 e3 ⟨_, hc, t_OB.to (V := updV (vp_V fs) k v) ⟨_, e1, q2, q3, t_set q4 hap hk v⟩ (fun j _ => vp_updV_set hkl v j)⟩ (hS0.put e2 e3 hA)
  | true =>
    rw [if_pos hfin] at hlay
    have hst := (u_facts hfc hkC (u_lays hts hin0 hk) hi).1
    have hcf : m.cls = cf := by
      obtain ⟨_, _, c', _, _, _, -, -, hf', -, -, -, hown2, -⟩ := Cond.laysFinal_spec hlay
      have e1 : c' = cf := by have := hi.symm.trans hf'; simp at this; exact this.1.symm
      rw [hdecl rfl] at hown2
      rw [← e1]; exact Option.some.inj (hown.symm.trans hown2)
    have h6 := u_fits hfc hkC hkind (Or.inr hlay) hi hd hn hfit
    rcases hlink with hl1 | ⟨h9, -⟩
    · refine W.putFinK hexec hb hown (hts _ hl1) (hsm _ hi) hst hcf (hin rfl) (by rw [q2]; exact h6) q1 q3 (by rw [hsl]; exact k2_hasslot (q4 k hk)) rfl rfl hdg fun H' e1 e2 e3 => ?_
      rw [hsl] at e1 ⊢
      exact kk H' _ e2 e3 ⟨_, hc, t_OB.to (V := updV (vp_V fs) k v) ⟨_, e1, q2, q3, t_set q4 hap hk v⟩ (fun j _ => vp_updV_set hkl v j)⟩ (hS0.put e2 e3 hA)
    · cases h9
/-- a field is read -/
theorem zw_get {own : String} {idx ci k a : Nat} (hF : zFA own idx ci k) (hexec : p.tables.exec = Jvm.exec) (hb : c.code = cc) (hts : ∀ w ∈ lw_all, w.before args s = true) (hown : s.vm.findClass own = some m.cls) (hK : va_K D zCl [] s) (hnf : ∀ q ∈ zNf, va_Nw (.fieldLinkNest q.1 q.2.1 q.2.2.1 q.2.2.2.1 q.2.2.2.2.1 q.2.2.2.2.2) s)
    {fs : List Value} (hat : va_at D zCl (a, .inr (ci, fs)) H) {v : Value} (hv : fs[k]? = some v) (hdg : decode cc pc = .ok (.getfield idx, 3))
    (kk : W p l e R s m args below meth c H locs cells slots Q (F0 m (pc + 3) ls (v :: rest))) : W p l e R s m args below meth c H locs cells slots Q (F0 m pc ls (.ref a :: rest)) := by
  obtain ⟨C, T, N, ref, hc, hin0, hk, hN, hci, hlink, hsame⟩ := hF
  have hP : va_P D zCl [(a, .inr (ci, fs))] H := by
    intro j q hq
    have hz : j < 1 := (List.getElem?_eq_some_iff.mp hq).1
    rw [show j = 0 by omega] at hq
    cases hq
    exact hat
  have hsm := zsame (own := own) hts hsame
  rcases hlink with hl1 | ⟨host, hl1⟩
  · exact va_get hexec hb hts hin0 hown hK hP 0 rfl hc k hk (hts _ hl1) hsm hv hdg kk
  · exact va_getN hexec hb hts hin0 hown hK hP 0 rfl hc k hk (va_Nw.use rfl (hnf _ hl1)) hsm hv hdg kk
end ZW
section GM
variable {β : Type} {own : String} {cc : ByteArray} {nL : Nat} {rt : Option FieldType} {ini : Bool} {fr lo : Nat} {tb : List ExceptionTableEntry} {ob : β → zM → Prop} {Qf : zQf β} {c0 s0 pc : Nat} {A : List (Nat × Value)} {B : List (Nat × Int64)} {st : List Value} {u : zM} {o : Option (β × zM)}
theorem zAt_obj {K : zK} {s : State} {n ci : Nat} {H : Heap} (hC : Cz K s u H) (hn : al u n) (hk : kd n = ci) (hci : ci < 13) : va_at K.1 zCl (ad K u n, .inr (ci, (List.range (zN ci)).map (fun k => if fT ci k = 0 then .int (mI u n k) else va_rf ((mR u n k).map (ad K u))))) H := by
  have h := (hC.1 n hn (by omega)).1
  unfold zAt zCell at h
  rw [hk, if_pos hci] at h
  exact h
theorem go_getI {idx ci k n : Nat} (hF : zFA own idx ci k) (hk : kd n = ci) (hf : fT ci k = 0) (d : decode cc pc = .ok (.getfield idx, 3)) (g : Go own cc nL rt ini fr lo tb ob Qf c0 s0 (pc + 3) A B (.int (mI u n k) :: st) u o) : Go own cc nL rt ini fr lo tb ob Qf c0 s0 pc A B (.ref n :: st) u o := by
  refine go_pure (pc' := pc + 3) (st := .ref n :: st) (st' := .int (mI u n k) :: st) (fun hwf hA hS => okS_cons.mpr ⟨okV_int, (okS_cons.mp hS).2⟩) (fun K p l e R s m args below meth c H locs ls cells slots Q hc hL hwf hS hC kk => ?_) g
  obtain ⟨C, T, N, ref, e1, e2, e3, e4, e5, e6⟩ := id hF
  have hn : al u n := okV_ref.mp (okS_cons.mp hS).1
  refine zw_get hF hc.1 hc.2.1 hc.2.2.2.2.2.1 hc.2.2.2.2.1 hc.2.2.2.2.2.2.2.2.2.2.1.1 hc.2.2.2.2.2.2.2.2.2.2.1.2.1 (zAt_obj hC hn hk e5) (v := .int (mI u n k)) ?_ d kk
  rw [zl_get _ (by omega), if_pos hf]
/-- a field that refers: its kind is known -/
theorem go_getR {idx ci k n : Nat} {f : Option Nat → Option (β × zM)} (hF : zFA own idx ci k) (hk : kd n = ci) {t : Nat} (hf : fT ci k = t + 1) (d : decode cc pc = .ok (.getfield idx, 3)) (g : ∀ r : Option Nat, (∀ n', r = some n' → kd n' = t) → Go own cc nL rt ini fr lo tb ob Qf c0 s0 (pc + 3) A B (va_rf r :: st) u (f r)) : Go own cc nL rt ini fr lo tb ob Qf c0 s0 pc A B (.ref n :: st) u (lt (mR u n k) f) := by
  obtain ⟨C, T, N, ref, e1, e2, e3, e4, e5, e6⟩ := id hF
  intro b u' ho hwf hA hS
  have hn : al u n := okV_ref.mp (okS_cons.mp hS).1
  have hr : ∀ n', mR u n k = some n' → al u n' ∧ kd n' = t := fun n' h => by
    obtain ⟨h1, h2⟩ := hwf.1 n k n' hn (by rw [hk, hf]; omega) h
    rw [hk, hf] at h2
    exact ⟨h1, by omega⟩
  have g' := g (mR u n k) (fun n' h => (hr n' h).2)
  have := go_pure (pc' := pc + 3) (st := .ref n :: st) (st' := va_rf (mR u n k) :: st) (fun hwf hA hS => okS_cons.mpr ⟨okV_rf.mpr fun n' h => (hr n' h).1, (okS_cons.mp hS).2⟩) (fun K p l e R s m args below meth c H locs ls cells slots Q hc hL hwf hS hC kk => by
    refine zw_get hF hc.1 hc.2.1 hc.2.2.2.2.2.1 hc.2.2.2.2.1 hc.2.2.2.2.2.2.2.2.2.2.1.1 hc.2.2.2.2.2.2.2.2.2.2.1.2.1 (zAt_obj hC hn hk e5) (v := va_rf ((mR u n k).map (ad K u))) ?_ d ?_
    · rw [zl_get _ (by omega), if_neg (by rw [hf]; omega)]
    · rw [← cv_rf]; exact kk) g'
  exact this b u' ho hwf hA hS
/-- a step that writes one cell -/
theorem go_write {pc' : Nat} {stA : List Value} {n : Nat} {u1 : zM} (hwf1 : zWf u → okS u stA → zWf u1) (hex : zEx u u1) (hok : okS u stA → okS u st) (hMC : mC u1 = mC u) (hMS : mS u1 = mS u)
    (hw : ∀ (K : zK) (p : Program) (l : Launch) (e : Env) (R : Room) (s : State) (m : MethodId) (args : Array Value) (below : List Frame) (meth : Method) (c : Code) (H : Heap) (locs : List Loc) (ls : Array Slot) (cells slots : Nat) (Q : State → Prop), zCx own cc nL rt ini fr lo tb K p R s m args meth c → lzHas K u ls nL A B → zWf u → okS u stA → Cz K s u H → va_S (zA K) s.heap H locs →
      (∀ (H1 : Heap) (locs1 : List Loc), Cz K s u1 H1 → va_S (zA K) s.heap H1 locs1 → W p l e R s m args below meth c H1 locs1 cells slots Q (F0 m pc' ls (st.map (cv K u)))) → W p l e R s m args below meth c H locs cells slots Q (F0 m pc ls (stA.map (cv K u))))
    (g : Go own cc nL rt ini fr lo tb ob Qf c0 s0 pc' A B st u1 o) : Go own cc nL rt ini fr lo tb ob Qf c0 s0 pc A B stA u o := by
  intro b u' ho hwf hA hS
  obtain ⟨h1, h2⟩ := g b u' ho (hwf1 hwf hS) (hA.ex hex) ((hok hS).ex hex)
  refine ⟨⟨h1.1, hex.tr h1.2.1, h1.2.2⟩, fun K p l e R s m args below meth c H locs ls hc q1 q2 q3 q4 hC hV hL => ?_⟩
  refine hw K p l e R s m args below meth c H locs ls _ _ _ hc hL hwf hS hC hV fun H1 locs1 hC1 hV1 => ?_
  have := h2 K p l e R s m args below meth c H1 locs1 ls hc (by rw [hMC]; exact q1) (by rw [hMS]; exact q2) q3 q4 hC1 hV1 (hL.ex hA hex)
  rw [hMC, hMS, cvS_ex (hok hS) hex] at this
  exact this
theorem ad_A {K : zK} {n : Nat} (h : kd n < 27) : zA K (ad K u n) := by
  rw [ad_own h]; exact Nat.le_add_right _ _
theorem fits_rf {C : String} {r : Option Nat} : fits (.object C) (va_rf r) = true := by cases r <;> rfl
theorem fits_rfA {t : FieldType} {r : Option Nat} : fits (.array t) (va_rf r) = true := by cases r <;> rfl
/-- what a field's type keeps of a whole number -/
def zKeep (ty : FieldType) (v : Int32) : Prop := narrow ty (.int v) = .int v ∧ fits ty (.int v) = true
theorem zKeep_int {v : Int32} : zKeep .int v := ⟨rfl, rfl⟩
theorem zKeep_bool {v : Int32} (h : v = 0 ∨ v = 1) : zKeep .boolean v := by
  rcases h with rfl | rfl
  · exact ⟨by decide, by decide⟩
  · exact ⟨by decide, by decide⟩
theorem zPut_ok {K : zK} {s : State} {n ci k : Nat} {H H1 : Heap} {u1 : zM} (hC : Cz K s u H) (hn : al u n) (hk : kd n = ci) (hci : ci < 13) (hkN : k < zN ci) {v : Value} (hsz : H1.size = H.size) (hq : ∀ q, q ≠ ad K u n → H1[q]? = H[q]?)
    (hA : mA u1 = mA u) (hK : mK u1 = mK u) (hM : mC u1 = mC u) (ho : ∀ n', n' ≠ n → mI u1 n' = mI u n' ∧ mR u1 n' = mR u n' ∧ mL u1 n' = mL u n' ∧ mN u1 n' = mN u n')
    (h1 : ∀ j, j ≠ k → mI u1 n j = mI u n j ∧ mR u1 n j = mR u n j) (hv : (if fT ci k = 0 then Value.int (mI u1 n k) else va_rf ((mR u1 n k).map (ad K u))) = v)
    (hat : va_at K.1 zCl (ad K u n, .inr (ci, ((List.range (zN ci)).map (fun k => if fT ci k = 0 then Value.int (mI u n k) else va_rf ((mR u n k).map (ad K u)))).set k v)) H1) : Cz K s u1 H1 := by
  refine hC.upd hn (by omega) hsz hq hA hK hM ho ?_
  have e2 : ad K u1 = ad K u := funext fun n' => by unfold ad; rw [hA]
  unfold zAt zCell
  rw [hk, if_pos hci, e2]
  rw [zl_set (g := fun k => if fT ci k = 0 then Value.int (mI u1 n k) else va_rf ((mR u1 n k).map (ad K u))) (f := fun k => if fT ci k = 0 then Value.int (mI u n k) else va_rf ((mR u n k).map (ad K u))) (fun j _ hj => by rw [(h1 j hj).1, (h1 j hj).2]) hkN, hv]
  exact hat
theorem go_putI {fin : Bool} {idx ci k n : Nat} {ty : FieldType} {v : Int32} {f : zM → Option (β × zM)} (hF : zPA fin own idx ci k ty) (hini : fin = true → ini = true) (hk : kd n = ci) (hf : fT ci k = 0) (hv : zKeep ty v) (d : decode cc pc = .ok (.putfield idx, 3)) (g : ∀ u1, Go own cc nL rt ini fr lo tb ob Qf c0 s0 (pc + 3) A B st u1 (f u1)) : Go own cc nL rt ini fr lo tb ob Qf c0 s0 pc A B (.int v :: .ref n :: st) u (lt (sI u n k v) f) := by
  obtain ⟨C, T, N, ref, ty0, e1, e2, e3, e4, e5, e6⟩ := id hF
  refine go_write (n := n) (u1 := sI u n k v) (fun hwf _ => zWf_sI hwf (by omega)) zEx_sI (fun hS => (okS_cons.mp (okS_cons.mp hS).2).2) rfl rfl (fun K p l e R s m args below meth c H locs ls cells slots Q hc hL hwf hS hC hV kk => ?_) (g (sI u n k v))
  have hn : al u n := okV_ref.mp (okS_cons.mp (okS_cons.mp hS).2).1
  refine zw_put hF hc.1 hc.2.1 hc.2.2.2.2.2.1 hc.2.2.2.2.1 hc.2.2.2.2.2.2.2.2.2.2.1.1 hc.2.2.2.2.2.2.2.2.2.2.1.2.1 (fun h => hc.2.2.2.2.2.2.2.1 (hini h)) (zAt_obj hC hn hk e5) hV (ad_A (by omega)) hv.1 hv.2 (by simp) d (fun H1 locs1 z1 z2 z3 z4 => kk H1 locs1 ?_ z4)
  refine zPut_ok hC hn hk e5 (by omega) z1 z2 rfl rfl rfl (fun n' hn' => ⟨funext fun j => by rw [mI_sI, if_neg (fun z => hn' z.1)], rfl, rfl, rfl⟩) (fun j hj => ⟨by rw [mI_sI, if_neg (fun z => hj z.2)], rfl⟩) ?_ z3
  rw [if_pos hf, mI_sI, if_pos ⟨rfl, rfl⟩]
  rfl
/-- a reference type -/
def zRefTy (ty : FieldType) : Prop := (∃ C, ty = .object C) ∨ ∃ t, ty = .array t
theorem zRef_keep {ty : FieldType} (h : zRefTy ty) (r : Option Nat) : narrow ty (va_rf r) = va_rf r ∧ fits ty (va_rf r) = true := by
  rcases h with ⟨C, rfl⟩ | ⟨t, rfl⟩ <;> cases r <;> exact ⟨rfl, rfl⟩
theorem go_putR {fin : Bool} {idx ci k n t : Nat} {ty : FieldType} {r : Option Nat} {f : zM → Option (β × zM)} (hF : zPA fin own idx ci k ty) (hini : fin = true → ini = true) (hk : kd n = ci) (hf : fT ci k = t + 1) (hty : zRefTy ty) (hr : ∀ n', r = some n' → kd n' = t) (d : decode cc pc = .ok (.putfield idx, 3)) (g : ∀ u1, Go own cc nL rt ini fr lo tb ob Qf c0 s0 (pc + 3) A B st u1 (f u1)) : Go own cc nL rt ini fr lo tb ob Qf c0 s0 pc A B (va_rf r :: .ref n :: st) u (lt (sR u n k r) f) := by
  obtain ⟨C, T, N, ref, ty0, e1, e2, e3, e4, e5, e6⟩ := id hF
  refine go_write (n := n) (u1 := sR u n k r) (fun hwf hS => zWf_sR hwf fun n' h => ⟨okV_rf.mp (okS_cons.mp hS).1 n' h, by rw [hk, hf, hr n' h]⟩) zEx_sR (fun hS => (okS_cons.mp (okS_cons.mp hS).2).2) rfl rfl (fun K p l e R s m args below meth c H locs ls cells slots Q hc hL hwf hS hC hV kk => ?_) (g (sR u n k r))
  have hn : al u n := okV_ref.mp (okS_cons.mp (okS_cons.mp hS).2).1
  rw [List.map_cons, cv_rf]
  refine zw_put hF hc.1 hc.2.1 hc.2.2.2.2.2.1 hc.2.2.2.2.1 hc.2.2.2.2.2.2.2.2.2.2.1.1 hc.2.2.2.2.2.2.2.2.2.2.1.2.1 (fun h => hc.2.2.2.2.2.2.2.1 (hini h)) (zAt_obj hC hn hk e5) hV (ad_A (by omega)) (zRef_keep hty _).1 (zRef_keep hty _).2 (by simp) d (fun H1 locs1 z1 z2 z3 z4 => kk H1 locs1 ?_ z4)
  refine zPut_ok hC hn hk e5 (by omega) z1 z2 rfl rfl rfl (fun n' hn' => ⟨rfl, funext fun j => by rw [mR_sR, if_neg (fun z => hn' z.1)], rfl, rfl⟩) (fun j hj => ⟨rfl, by rw [mR_sR, if_neg (fun z => hj z.2)]⟩) ?_ z3
  rw [if_neg (by rw [hf]; omega), mR_sR, if_pos ⟨rfl, rfl⟩]
/-! arrays -/
theorem zAt_arr {K : zK} {s : State} {n ci : Nat} {H : Heap} (hC : Cz K s u H) (hn : al u n) (hk : kd n = ci) (h13 : 13 ≤ ci) (h27 : ci < 27) : ∃ cA, ArrOfT s cA (zTy ci) ∧ va_RA s cA (zTy ci) ∧ H[ad K u n]? = some (vp_cell cA (mN u n, if ci < 16 then .inl (mI u n) else if ci = 16 then .inr (.inl (mL u n)) else .inr (.inr (.inr (.inr (fun k => (mR u n k).map (ad K u))))))) := by
  have h := (hC.1 n hn (by omega)).1
  unfold zAt zCell at h
  rw [hk, if_neg (by omega)] at h
  exact h
/-- an index is looked at -/
theorem go_ix {i : Int32} {n : Nat} {o : Option (β × zM)} {st0 : List Value} (g : ¬ (i < 0 ∨ n ≤ i.toNatClampNeg) → Go own cc nL rt ini fr lo tb ob Qf c0 s0 pc A B st0 u o) : Go own cc nL rt ini fr lo tb ob Qf c0 s0 pc A B st0 u (ix i n o) := by
  intro b u' ho
  unfold ix at ho
  split at ho
  · cases ho
  · rename_i h
    exact g h b u' ho
theorem go_arrI {ci : Nat} {ty : FieldType} {ins : Instr} {i : Int32} {n : Nat} (hty : zTy ci = ty) (h13 : 13 ≤ ci) (h16 : ci < 16) (hk : kd n = ci) (d : decode cc pc = .ok (ins, 1))
    (hrow : ∀ (K : zK) (p : Program) (l : Launch) (e : Env) (R : Room) (s : State) (m : MethodId) (args : Array Value) (below : List Frame) (meth : Method) (c : Code) (H : Heap) (locs : List Loc) (ls : Array Slot) (cells slots : Nat) (Q : State → Prop) (rest : List Value) (a : Nat) (cA : ClassId) (len : Nat) (f : Nat → Int32), p.tables.exec = Jvm.exec → c.code = cc → va_K K.1 zCl [(cA, ty)] s → va_P K.1 zCl [(a, .inl (cA, len, .inl f))] H → vp_in i len →
      W p l e R s m args below meth c H locs cells slots Q (F0 m (pc + 1) ls (.int (f i.toNatClampNeg) :: rest)) → W p l e R s m args below meth c H locs cells slots Q (F0 m pc ls (.int i :: .ref a :: rest)))
    (g : Go own cc nL rt ini fr lo tb ob Qf c0 s0 (pc + 1) A B (.int (mI u n (xN i)) :: st) u o) : Go own cc nL rt ini fr lo tb ob Qf c0 s0 pc A B (.int i :: .ref n :: st) u (ix i (mN u n) o) := by
  refine go_ix fun hix => ?_
  refine go_pure (pc' := pc + 1) (st := .int i :: .ref n :: st) (st' := .int (mI u n (xN i)) :: st) (fun hwf hA hS => okS_cons.mpr ⟨okV_int, (okS_cons.mp (okS_cons.mp hS).2).2⟩) (fun K p l e R s m args below meth c H locs ls cells slots Q hc hL hwf hS hC kk => ?_) g
  have hn : al u n := okV_ref.mp (okS_cons.mp (okS_cons.mp hS).2).1
  obtain ⟨cA, a1, a2, a3⟩ := zAt_arr hC hn hk h13 (by omega)
  rw [if_pos h16] at a3
  rw [hty] at a1 a2
  refine hrow K p l e R s m args below meth c H locs ls cells slots Q (st.map (cv K u)) (ad K u n) cA (mN u n) (mI u n) hc.1 hc.2.1 ⟨hc.2.2.2.2.2.2.2.2.2.2.1.1.1, fun k q hq => ?_⟩ ?_ hix kk
  · have hz : k < 1 := (List.getElem?_eq_some_iff.mp hq).1
    rw [show k = 0 by omega] at hq
    cases hq
    exact ⟨a1, a2⟩
  · intro j q hq
    have hz : j < 1 := (List.getElem?_eq_some_iff.mp hq).1
    rw [show j = 0 by omega] at hq
    cases hq
    exact a3
theorem go_iald {i : Int32} {n : Nat} (hk : kd n = 13) (d : decode cc pc = .ok (.iaload, 1)) (g : Go own cc nL rt ini fr lo tb ob Qf c0 s0 (pc + 1) A B (.int (mI u n (xN i)) :: st) u o) : Go own cc nL rt ini fr lo tb ob Qf c0 s0 pc A B (.int i :: .ref n :: st) u (ix i (mN u n) o) :=
  go_arrI (ci := 13) rfl (by decide) (by decide) hk d (fun K p l e R s m args below meth c H locs ls cells slots Q rest a cA len f h1 h2 h3 h4 h5 kk => va_iald h1 h2 h3 h4 0 0 rfl rfl h5 d kk) g
theorem go_bald {i : Int32} {n : Nat} (hk : kd n = 14) (d : decode cc pc = .ok (.baload, 1)) (g : Go own cc nL rt ini fr lo tb ob Qf c0 s0 (pc + 1) A B (.int (mI u n (xN i)) :: st) u o) : Go own cc nL rt ini fr lo tb ob Qf c0 s0 pc A B (.int i :: .ref n :: st) u (ix i (mN u n) o) :=
  go_arrI (ci := 14) rfl (by decide) (by decide) hk d (fun K p l e R s m args below meth c H locs ls cells slots Q rest a cA len f h1 h2 h3 h4 h5 kk => va_bald h1 h2 h3 h4 0 0 rfl rfl h5 d kk) g
theorem go_zald {i : Int32} {n : Nat} (hk : kd n = 15) (d : decode cc pc = .ok (.baload, 1)) (g : Go own cc nL rt ini fr lo tb ob Qf c0 s0 (pc + 1) A B (.int (mI u n (xN i)) :: st) u o) : Go own cc nL rt ini fr lo tb ob Qf c0 s0 pc A B (.int i :: .ref n :: st) u (ix i (mN u n) o) :=
  go_arrI (ci := 15) rfl (by decide) (by decide) hk d (fun K p l e R s m args below meth c H locs ls cells slots Q rest a cA len f h1 h2 h3 h4 h5 kk => va_zald h1 h2 h3 h4 0 0 rfl rfl h5 d kk) g
theorem go_lald {i : Int32} {n : Nat} (hk : kd n = 16) (d : decode cc pc = .ok (.laload, 1)) (g : Go own cc nL rt ini fr lo tb ob Qf c0 s0 (pc + 1) A B (.long (mL u n (xN i)) :: st) u o) : Go own cc nL rt ini fr lo tb ob Qf c0 s0 pc A B (.int i :: .ref n :: st) u (ix i (mN u n) o) := by
  refine go_ix fun hix => ?_
  refine go_pure (pc' := pc + 1) (st := .int i :: .ref n :: st) (st' := .long (mL u n (xN i)) :: st) (fun hwf hA hS => okS_cons.mpr ⟨okV_long, (okS_cons.mp (okS_cons.mp hS).2).2⟩) (fun K p l e R s m args below meth c H locs ls cells slots Q hc hL hwf hS hC kk => ?_) g
  have hn : al u n := okV_ref.mp (okS_cons.mp (okS_cons.mp hS).2).1
  obtain ⟨cA, a1, a2, a3⟩ := zAt_arr hC hn hk (by decide) (by decide)
  have hlt : i.toNatClampNeg < mN u n := Nat.not_le.mp fun q => hix (Or.inr q)
  exact W.lald (v := .long (mL u n (xN i))) hc.1 hc.2.1 a3 (a1 (mN u n) (fun j => .long (mL u n j))) (fun q => by cases q) (by show ¬ (i < 0 ∨ (arrV _ _ _).slots.size ≤ _); rw [arrV_size]; exact hix) (by show (arrV _ _ _).slots[_]? = _; rw [arrV_read _ _ hlt]) rfl rfl d kk
theorem zEl_ne {ci : Nat} (h1 : 17 ≤ ci) (h2 : ci < 27) : zEl ci ≠ 0 := by
  have : ci = 17 ∨ ci = 18 ∨ ci = 19 ∨ ci = 20 ∨ ci = 21 ∨ ci = 22 ∨ ci = 23 ∨ ci = 24 ∨ ci = 25 ∨ ci = 26 := by omega
  rcases this with e | e | e | e | e | e | e | e | e | e <;> rw [e] <;> decide
theorem zTy_ref {ci : Nat} (h1 : 17 ≤ ci) (h2 : ci < 27) : (zTy ci).isReference = true := by
  have : ci = 17 ∨ ci = 18 ∨ ci = 19 ∨ ci = 20 ∨ ci = 21 ∨ ci = 22 ∨ ci = 23 ∨ ci = 24 ∨ ci = 25 ∨ ci = 26 := by omega
  rcases this with e | e | e | e | e | e | e | e | e | e <;> rw [e] <;> rfl
theorem fT_arr {ci k : Nat} (h : 13 ≤ ci) : fT ci k = zEl ci := by unfold fT; rw [if_neg (by omega)]
theorem go_aald {i : Int32} {n ci t : Nat} {f : Option Nat → Option (β × zM)} (h17 : 17 ≤ ci) (h27 : ci < 27) (hk : kd n = ci) (ht : zEl ci = t + 1) (d : decode cc pc = .ok (.aaload, 1)) (g : ∀ r : Option Nat, (∀ n', r = some n' → kd n' = t) → Go own cc nL rt ini fr lo tb ob Qf c0 s0 (pc + 1) A B (va_rf r :: st) u (f r)) : Go own cc nL rt ini fr lo tb ob Qf c0 s0 pc A B (.int i :: .ref n :: st) u (ix i (mN u n) (lt (mR u n (xN i)) f)) := by
  refine go_ix fun hix => ?_
  intro b u' ho hwf hA hS
  have hn : al u n := okV_ref.mp (okS_cons.mp (okS_cons.mp hS).2).1
  have hr : ∀ n', mR u n (xN i) = some n' → al u n' ∧ kd n' = t := fun n' h => by
    obtain ⟨h1, h2⟩ := hwf.1 n (xN i) n' hn (by rw [hk, fT_arr (by omega), ht]; omega) h
    rw [hk, fT_arr (by omega), ht] at h2
    exact ⟨h1, by omega⟩
  have g' := g (mR u n (xN i)) (fun n' h => (hr n' h).2)
  have hlt : i.toNatClampNeg < mN u n := Nat.not_le.mp fun q => hix (Or.inr q)
  have := go_pure (pc' := pc + 1) (st := .int i :: .ref n :: st) (st' := va_rf (mR u n (xN i)) :: st) (fun hwf hA hS => okS_cons.mpr ⟨okV_rf.mpr fun n' h => (hr n' h).1, (okS_cons.mp (okS_cons.mp hS).2).2⟩) (fun K p l e R s m args below meth c H locs ls cells slots Q hc hL hwf hS hC kk => by
    obtain ⟨cA, a1, a2, a3⟩ := zAt_arr hC hn hk (by omega) h27
    rw [if_neg (by omega), if_neg (by omega)] at a3
    refine W.aald (ty := zTy ci) (v := va_rf ((mR u n (xN i)).map (ad K u))) hc.1 hc.2.1 a3 (a1 (mN u n) (fun j => va_rf ((mR u n j).map (ad K u)))) (zTy_ref h17 h27) (fun q => by cases q) (by show ¬ (i < 0 ∨ (arrV _ _ _).slots.size ≤ _); rw [arrV_size]; exact hix) (by show (arrV _ _ _).slots[_]? = _; rw [arrV_read _ _ hlt]) rfl rfl d ?_
    rw [← cv_rf]; exact kk) g'
  exact this b u' ho hwf hA hS
theorem go_alen {n ci : Nat} (h13 : 13 ≤ ci) (h27 : ci < 27) (hk : kd n = ci) (d : decode cc pc = .ok (.arraylength, 1)) (g : Go own cc nL rt ini fr lo tb ob Qf c0 s0 (pc + 1) A B (.int (Int32.ofNat (mN u n)) :: st) u o) : Go own cc nL rt ini fr lo tb ob Qf c0 s0 pc A B (.ref n :: st) u o := by
  refine go_pure (pc' := pc + 1) (st := .ref n :: st) (st' := .int (Int32.ofNat (mN u n)) :: st) (fun hwf hA hS => okS_cons.mpr ⟨okV_int, (okS_cons.mp hS).2⟩) (fun K p l e R s m args below meth c H locs ls cells slots Q hc hL hwf hS hC kk => ?_) g
  have hn : al u n := okV_ref.mp (okS_cons.mp hS).1
  obtain ⟨cA, a1, a2, a3⟩ := zAt_arr hC hn hk h13 h27
  refine va_alen hc.1 hc.2.1 (D := K.1) (cl := zCl) (tys := [(cA, zTy ci)]) (ws := [(ad K u n, .inl (cA, (mN u n, if ci < 16 then .inl (mI u n) else if ci = 16 then .inr (.inl (mL u n)) else .inr (.inr (.inr (.inr (fun k => (mR u n k).map (ad K u))))))))]) ⟨hc.2.2.2.2.2.2.2.2.2.2.1.1.1, fun k q hq => ?_⟩ (fun j q hq => ?_) 0 0 rfl rfl rfl d kk
  · have hz : k < 1 := (List.getElem?_eq_some_iff.mp hq).1
    rw [show k = 0 by omega] at hq
    cases hq
    exact ⟨a1, a2⟩
  · have hz : j < 1 := (List.getElem?_eq_some_iff.mp hq).1
    rw [show j = 0 by omega] at hq
    cases hq
    exact a3
/-- the cell of an array after a store -/
theorem zArr_ok {K : zK} {s : State} {n ci : Nat} {H H1 : Heap} {u1 : zM} (hC : Cz K s u H) (hn : al u n) (hk : kd n = ci) (h13 : 13 ≤ ci) (h27 : ci < 27) (hsz : H1.size = H.size) (hq : ∀ q, q ≠ ad K u n → H1[q]? = H[q]?)
    (hA : mA u1 = mA u) (hK : mK u1 = mK u) (hM : mC u1 = mC u) (hN : mN u1 = mN u) (ho : ∀ n', n' ≠ n → mI u1 n' = mI u n' ∧ mR u1 n' = mR u n' ∧ mL u1 n' = mL u n' ∧ mN u1 n' = mN u n') {cA : ClassId} (a1 : ArrOfT s cA (zTy ci)) (a2 : va_RA s cA (zTy ci))
    (hat : H1[ad K u n]? = some (vp_cell cA (mN u n, if ci < 16 then .inl (mI u1 n) else if ci = 16 then .inr (.inl (mL u1 n)) else .inr (.inr (.inr (.inr (fun k => (mR u1 n k).map (ad K u)))))))) : Cz K s u1 H1 := by
  refine hC.upd hn (by omega) hsz hq hA hK hM ho ?_
  have e2 : ad K u1 = ad K u := funext fun n' => by unfold ad; rw [hA]
  unfold zAt zCell
  rw [hk, if_neg (by omega), e2, hN]
  exact ⟨cA, a1, a2, hat⟩
theorem go_iast {i v : Int32} {n : Nat} {f : zM → Option (β × zM)} (hk : kd n = 13) (d : decode cc pc = .ok (.iastore, 1)) (g : ∀ u1, Go own cc nL rt ini fr lo tb ob Qf c0 s0 (pc + 1) A B st u1 (f u1)) : Go own cc nL rt ini fr lo tb ob Qf c0 s0 pc A B (.int v :: .int i :: .ref n :: st) u (ix i (mN u n) (lt (sI u n (xN i) v) f)) := by
  refine go_ix fun hix => ?_
  refine go_write (n := n) (u1 := sI u n (xN i) v) (fun hwf _ => zWf_sI hwf (by omega)) zEx_sI (fun hS => (okS_cons.mp (okS_cons.mp (okS_cons.mp hS).2).2).2) rfl rfl (fun K p l e R s m args below meth c H locs ls cells slots Q hc hL hwf hS hC hV kk => ?_) (g (sI u n (xN i) v))
  have hn : al u n := okV_ref.mp (okS_cons.mp (okS_cons.mp (okS_cons.mp hS).2).2).1
  obtain ⟨cA, a1, a2, a3⟩ := zAt_arr hC hn hk (by decide) (by decide)
  refine W.iast hc.1 hc.2.1 a3 (a1 (mN u n) (fun j => .int (mI u n j))) (fun q => by cases q) (by show ¬ (i < 0 ∨ (arrV _ _ _).slots.size ≤ _); rw [arrV_size]; exact hix) rfl rfl d fun H1 e1 z oq => ?_
  refine kk H1 _ (zArr_ok hC hn hk (by decide) (by decide) z oq rfl rfl rfl rfl (fun n' hn' => ⟨funext fun j => by rw [mI_sI, if_neg (fun z => hn' z.1)], rfl, rfl, rfl⟩) a1 a2 ?_) (hV.put z oq (ad_A (by omega)))
  rw [e1]
  show some ((arrV cA (mN u n) (fun j => .int (mI u n j))).setSlot _ _) = some (arrV cA (mN u n) (fun j => .int (mI (sI u n (xN i) v) n j)))
  rw [arrV_store]
  congr 2
  funext q
  rw [mI_sI]
  by_cases hq : q = xN i
  · subst hq
    simp [updV]
  · simp [updV, hq]
theorem go_bast {i v : Int32} {n : Nat} {f : zM → Option (β × zM)} (hk : kd n = 14) (d : decode cc pc = .ok (.bastore, 1)) (g : ∀ u1, Go own cc nL rt ini fr lo tb ob Qf c0 s0 (pc + 1) A B st u1 (f u1)) : Go own cc nL rt ini fr lo tb ob Qf c0 s0 pc A B (.int v :: .int i :: .ref n :: st) u (ix i (mN u n) (lt (sI u n (xN i) v.toInt8.toInt32) f)) := by
  refine go_ix fun hix => ?_
  refine go_write (n := n) (u1 := sI u n (xN i) v.toInt8.toInt32) (fun hwf _ => zWf_sI hwf (by omega)) zEx_sI (fun hS => (okS_cons.mp (okS_cons.mp (okS_cons.mp hS).2).2).2) rfl rfl (fun K p l e R s m args below meth c H locs ls cells slots Q hc hL hwf hS hC hV kk => ?_) (g (sI u n (xN i) v.toInt8.toInt32))
  have hn : al u n := okV_ref.mp (okS_cons.mp (okS_cons.mp (okS_cons.mp hS).2).2).1
  obtain ⟨cA, a1, a2, a3⟩ := zAt_arr hC hn hk (by decide) (by decide)
  refine W.bast hc.1 hc.2.1 a3 (a1 (mN u n) (fun j => .int (mI u n j))) (fun q => by cases q) (by show ¬ (i < 0 ∨ (arrV _ _ _).slots.size ≤ _); rw [arrV_size]; exact hix) rfl rfl d fun H1 e1 z oq => ?_
  refine kk H1 _ (zArr_ok hC hn hk (by decide) (by decide) z oq rfl rfl rfl rfl (fun n' hn' => ⟨funext fun j => by rw [mI_sI, if_neg (fun z => hn' z.1)], rfl, rfl, rfl⟩) a1 a2 ?_) (hV.put z oq (ad_A (by omega)))
  rw [e1]
  show some ((arrV cA (mN u n) (fun j => .int (mI u n j))).setSlot _ _) = some (arrV cA (mN u n) (fun j => .int (mI (sI u n (xN i) v.toInt8.toInt32) n j)))
  rw [arrV_store]
  congr 2
  funext q
  rw [mI_sI]
  by_cases hq : q = xN i
  · subst hq
    simp [updV, narrow]
  · simp [updV, hq]
theorem go_zast {i v : Int32} {n : Nat} {f : zM → Option (β × zM)} (hk : kd n = 15) (d : decode cc pc = .ok (.bastore, 1)) (g : ∀ u1, Go own cc nL rt ini fr lo tb ob Qf c0 s0 (pc + 1) A B st u1 (f u1)) : Go own cc nL rt ini fr lo tb ob Qf c0 s0 pc A B (.int v :: .int i :: .ref n :: st) u (ix i (mN u n) (lt (sI u n (xN i) (v &&& 1)) f)) := by
  refine go_ix fun hix => ?_
  refine go_write (n := n) (u1 := sI u n (xN i) (v &&& 1)) (fun hwf _ => zWf_sI hwf (by omega)) zEx_sI (fun hS => (okS_cons.mp (okS_cons.mp (okS_cons.mp hS).2).2).2) rfl rfl (fun K p l e R s m args below meth c H locs ls cells slots Q hc hL hwf hS hC hV kk => ?_) (g (sI u n (xN i) (v &&& 1)))
  have hn : al u n := okV_ref.mp (okS_cons.mp (okS_cons.mp (okS_cons.mp hS).2).2).1
  obtain ⟨cA, a1, a2, a3⟩ := zAt_arr hC hn hk (by decide) (by decide)
  refine W.zast hc.1 hc.2.1 a3 (a1 (mN u n) (fun j => .int (mI u n j))) (fun q => by cases q) (by show ¬ (i < 0 ∨ (arrV _ _ _).slots.size ≤ _); rw [arrV_size]; exact hix) rfl rfl d fun H1 e1 z oq => ?_
  refine kk H1 _ (zArr_ok hC hn hk (by decide) (by decide) z oq rfl rfl rfl rfl (fun n' hn' => ⟨funext fun j => by rw [mI_sI, if_neg (fun z => hn' z.1)], rfl, rfl, rfl⟩) a1 a2 ?_) (hV.put z oq (ad_A (by omega)))
  rw [e1]
  show some ((arrV cA (mN u n) (fun j => .int (mI u n j))).setSlot _ _) = some (arrV cA (mN u n) (fun j => .int (mI (sI u n (xN i) (v &&& 1)) n j)))
  rw [arrV_store]
  congr 2
  funext q
  rw [mI_sI]
  by_cases hq : q = xN i
  · subst hq
    simp [updV, narrow]
  · simp [updV, hq]
theorem go_last {i : Int32} {v : Int64} {n : Nat} {f : zM → Option (β × zM)} (hk : kd n = 16) (d : decode cc pc = .ok (.lastore, 1)) (g : ∀ u1, Go own cc nL rt ini fr lo tb ob Qf c0 s0 (pc + 1) A B st u1 (f u1)) : Go own cc nL rt ini fr lo tb ob Qf c0 s0 pc A B (.long v :: .int i :: .ref n :: st) u (ix i (mN u n) (lt (sL u n (xN i) v) f)) := by
  refine go_ix fun hix => ?_
  refine go_write (n := n) (u1 := sL u n (xN i) v) (fun hwf _ => zWf_sL hwf) zEx_sL (fun hS => (okS_cons.mp (okS_cons.mp (okS_cons.mp hS).2).2).2) rfl rfl (fun K p l e R s m args below meth c H locs ls cells slots Q hc hL hwf hS hC hV kk => ?_) (g (sL u n (xN i) v))
  have hn : al u n := okV_ref.mp (okS_cons.mp (okS_cons.mp (okS_cons.mp hS).2).2).1
  obtain ⟨cA, a1, a2, a3⟩ := zAt_arr hC hn hk (by decide) (by decide)
  refine W.last hc.1 hc.2.1 a3 (a1 (mN u n) (fun j => .long (mL u n j))) (fun q => by cases q) (by show ¬ (i < 0 ∨ (arrV _ _ _).slots.size ≤ _); rw [arrV_size]; exact hix) rfl rfl d fun H1 e1 z oq => ?_
  refine kk H1 _ (zArr_ok hC hn hk (by decide) (by decide) z oq rfl rfl rfl rfl (fun n' hn' => ⟨rfl, rfl, funext fun j => by rw [mL_sL, if_neg (fun z => hn' z.1)], rfl⟩) a1 a2 ?_) (hV.put z oq (ad_A (by omega)))
  rw [e1]
  show some ((arrV cA (mN u n) (fun j => .long (mL u n j))).setSlot _ _) = some (arrV cA (mN u n) (fun j => .long (mL (sL u n (xN i) v) n j)))
  rw [arrV_store]
  congr 2
  funext q
  rw [mL_sL]
  by_cases hq : q = xN i
  · subst hq
    simp [updV]
  · simp [updV, hq]
/-- an object is stored in an array of its class -/
theorem go_aast {i : Int32} {n v ci ck : Nat} {C : String} {T : u_T} {N : Nat} {f : zM → Option (β × zM)} (h17 : 17 ≤ ci) (h23 : ci < 23) (hk : kd n = ci) (hv : kd v = ck) (hck : ck < 13) (he : zEl ci = ck + 1) (hcl : zCl[ck]? = some (C, T, N)) (hty : zTy ci = .object C) (d : decode cc pc = .ok (.aastore, 1)) (g : ∀ u1, Go own cc nL rt ini fr lo tb ob Qf c0 s0 (pc + 1) A B st u1 (f u1)) : Go own cc nL rt ini fr lo tb ob Qf c0 s0 pc A B (.ref v :: .int i :: .ref n :: st) u (ix i (mN u n) (lt (sR u n (xN i) (some v)) f)) := by
  refine go_ix fun hix => ?_
  refine go_write (n := n) (u1 := sR u n (xN i) (some v)) (fun hwf hS => zWf_sR hwf fun n' h => by cases h; exact ⟨okV_ref.mp (okS_cons.mp hS).1, by rw [hk, fT_arr (by omega), he, hv]⟩) zEx_sR (fun hS => (okS_cons.mp (okS_cons.mp (okS_cons.mp hS).2).2).2) rfl rfl (fun K p l e R s m args below meth c H locs ls cells slots Q hc hL hwf hS hC hV kk => ?_) (g (sR u n (xN i) (some v)))
  have hn : al u n := okV_ref.mp (okS_cons.mp (okS_cons.mp (okS_cons.mp hS).2).2).1
  have hn2 : al u v := okV_ref.mp (okS_cons.mp hS).1
  have hlt : i.toNatClampNeg < mN u n := Nat.not_le.mp fun q => hix (Or.inr q)
  obtain ⟨cA, a1, a2, a3⟩ := zAt_arr hC hn hk (by omega) (by omega)
  have a2' := a2
  rw [hty] at a2'
  rw [if_neg (by omega), if_neg (by omega)] at a3
  obtain ⟨r', hr', cellV, g1, g2, g3, -⟩ := zAt_obj hC hn2 hv hck
  have hcls := (hc.2.2.2.2.2.2.2.2.2.2.1.1.1 ck _ hcl).2
  obtain ⟨kA, comp, k1, k2, k3, -⟩ := a2'
  have hcomp : comp = K.1.1 ck := Option.some.inj (k3.symm.trans hcls.1)
  subst hcomp
  obtain ⟨kC, hkC, -⟩ := hcls.2
  refine W.aast hc.1 hc.2.1 a3 (fun q h => by cases h) (fun h => by cases h) k1 k2 rfl hkC ⟨fun q => hix (Or.inl q), by show _ < (arrV _ _ _).slots.size; rw [arrV_size]; exact hlt⟩ g1 (fun q h => by rw [g3] at h; cases h) (by rw [g2]; exact hkC) (by rw [g2]; exact va_assign hcls) rfl rfl d fun H1 e1 z oq => ?_
  refine kk H1 _ (zArr_ok hC hn hk (by omega) (by omega) z oq rfl rfl rfl rfl (fun n' hn' => ⟨rfl, funext fun j => by rw [mR_sR, if_neg (fun z => hn' z.1)], rfl, rfl⟩) a1 a2 ?_) (hV.put z oq (ad_A (by omega)))
  rw [e1, if_neg (by omega), if_neg (by omega)]
  show some ((arrV cA (mN u n) (fun j => va_rf ((mR u n j).map (ad K u)))).setSlot _ _) = some (arrV cA (mN u n) (fun j => va_rf ((mR (sR u n (xN i) (some v)) n j).map (ad K u))))
  rw [arrV_store]
  congr 2
  funext q
  rw [mR_sR]
  by_cases hq : q = xN i
  · subst hq
    simp [updV, va_rf]
  · simp [updV, hq]
/-! making cells -/
/-- a step that makes one cell -/
theorem go_make {pc' : Nat} {stA st1 : List Value} {σ len sl : Nat} {f : Nat → zM → Option (β × zM)} (hs : σ < 8192) (hk : σ % 32 < 27) (hok : okS u stA → okS u st1)
    (hw : ∀ (K : zK) (p : Program) (l : Launch) (e : Env) (R : Room) (s : State) (m : MethodId) (args : Array Value) (below : List Frame) (meth : Method) (c : Code) (H : Heap) (locs : List Loc) (ls : Array Slot) (cells slots : Nat) (Q : State → Prop), zCx own cc nL rt ini fr lo tb K p R s m args meth c → Cz K s u H → cells + 1 ≤ R.cells → slots + sl ≤ R.slots →
      (∀ (H1 : Heap), H1.size = H.size + 1 → (∀ q, q < H.size → H1[q]? = H[q]?) → zCell K.1 s H1 H.size (σ % 32) len (fun _ => 0) (fun _ => 0) (fun _ => none) → W p l e R s m args below meth c H1 locs (cells + 1) (slots + sl) Q (F0 m pc' ls (.ref H.size :: st1.map (cv K u)))) → W p l e R s m args below meth c H locs cells slots Q (F0 m pc ls (stA.map (cv K u))))
    (g : ∀ (n : Nat) (u1 : zM), kd n = σ % 32 → Go own cc nL rt ini fr lo tb ob Qf c0 s0 pc' A B (.ref n :: st1) u1 (f n u1)) : Go own cc nL rt ini fr lo tb ob Qf c0 s0 pc A B stA u (lt (nx u σ) (fun n => lt (mkc u σ len sl) (f n))) := by
  intro b u' ho hwf hA hS
  have hex : zEx u (mkc u σ len sl) := zEx_mkc hs
  have hal : al (mkc u σ len sl) (nx u σ) := (al_mkc hs).mpr (Or.inr rfl)
  obtain ⟨h1, h2⟩ := g (nx u σ) (mkc u σ len sl) (kd_nx u σ) b u' ho (zWf_mkc hwf hs hk) (hA.ex hex) (okS_cons.mpr ⟨okV_ref.mpr hal, (hok hS).ex hex⟩)
  refine ⟨⟨h1.1, hex.tr h1.2.1, h1.2.2⟩, fun K p l e R s m args below meth c H locs ls hc q1 q2 q3 q4 hC hV hL => ?_⟩
  have hc1 : mC u + 1 ≤ mC u' := h1.2.1.1
  have hs1 : mS u + sl ≤ mS u' := h1.2.1.2.1
  refine hw K p l e R s m args below meth c H locs ls _ _ _ hc hC (by omega) (by omega) fun H1 z1 z2 z3 => ?_
  have hV1 : va_S (zA K) s.heap H1 locs := ⟨Nat.le_trans hV.1 (by omega), fun q a1 a2 => (z2 q (Nat.lt_of_lt_of_le a1 hV.1)).trans (hV.2.1 q a1 a2), hV.2.2⟩
  have := h2 K p l e R s m args below meth c H1 locs ls hc (Nat.le_trans q1 (Nat.le_succ _)) (Nat.le_trans q2 (Nat.le_add_right _ _)) q3 q4 (hC.new hs hk z1 z2 hwf z3) hV1 (hL.ex hA hex)
  have e1 : mC (mkc u σ len sl) - c0 = mC u - c0 + 1 := by rw [mC_mkc]; omega
  have e2 : mS (mkc u σ len sl) - s0 = mS u - s0 + sl := by rw [mS_mkc]; omega
  have e3 : ad K (mkc u σ len sl) (nx u σ) = H.size := by
    rw [ad_own (by rw [kd_nx]; exact hk), mA_mkc, if_pos rfl]
    exact hC.2.2.1.symm
  rw [e1, e2, List.map_cons, cv_ref, e3, cvS_ex (hok hS) hex] at this
  exact this
/-- new, of a class whose objects the memory holds -/
def zNA (own : String) (idx ci : Nat) : Prop := ∃ (C : String) (T : u_T) (N : Nat) (ty0 : Nat → FieldType), zCl[ci]? = some (C, T, N) ∧ (∀ w ∈ u_ws C T N, w ∈ lw_all) ∧ (∀ j, j < N → parseFieldDescriptor (T j).2.2.1 = some (ty0 j)) ∧ Cond.classLink own idx C ∈ lw_all ∧ Cond.instantiable C N ∈ lw_all ∧ Cond.initialized C ∈ lw_all ∧ N = zN ci ∧ ci < 13 ∧ ∀ j, j < N → defaultValue (ty0 j) = if fT ci j = 0 then .int 0 else .null
theorem go_new {idx ci σ N : Nat} {f : Nat → zM → Option (β × zM)} (hF : zNA own idx ci) (hs : σ < 8192) (hk : σ % 32 = ci) (hN : zN ci = N) (d : decode cc pc = .ok (.new idx, 3)) (g : ∀ (n : Nat) (u1 : zM), kd n = ci → Go own cc nL rt ini fr lo tb ob Qf c0 s0 (pc + 3) A B (.ref n :: st) u1 (f n u1)) : Go own cc nL rt ini fr lo tb ob Qf c0 s0 pc A B st u (lt (nx u σ) (fun n => lt (mkc u σ 0 N) (f n))) := by
  obtain ⟨C, T, N', ty0, e1, e2, e3, e4, e5, e6, e7, e8, e9⟩ := hF
  have hNN : N' = N := by omega
  subst hNN
  refine go_make hs (by omega) (fun h => h) (fun K p l e R s m args below meth c H locs ls cells slots Q hc hC q1 q2 kk => ?_) (fun n u1 hn => g n u1 (hn.trans hk))
  have hKn := hc.2.2.2.2.2.2.2.2.2.2.1.1.1 ci _ e1
  have hts := hc.2.2.2.2.2.1
  refine W.newcK hc.1 hc.2.1 hc.2.2.2.2.1 (hts _ e4) (hts _ e5) (hts _ e6) rfl d q1 q2 hKn.2.1 rfl fun H1 kC hkC e1' z1 o1 => kk H1 z1 o1 ?_
  unfold zCell
  rw [hk, if_pos e8]
  refine ⟨_, e1, (u_born ty0 hts e2 hKn hkC e1' e3).to fun j hj => ?_⟩
  show defaultValue (ty0 j) = vp_V _ j
  unfold vp_V
  rw [List.getD_eq_getElem?_getD, zl_get _ (by omega), e9 j hj]
  rfl
theorem go_gs {y : Int32} {o : Option (β × zM)} {st0 : List Value} (g : ¬ (y < 0 ∨ 65536 < y.toNatClampNeg) → Go own cc nL rt ini fr lo tb ob Qf c0 s0 pc A B st0 u o) : Go own cc nL rt ini fr lo tb ob Qf c0 s0 pc A B st0 u (gs y o) := by
  intro b u' ho
  unfold gs at ho
  split at ho
  · cases ho
  · rename_i h
    exact g h b u' ho
/-- newarray -/
theorem go_newa {at_ : ArrayType} {ty : FieldType} {ci σ : Nat} {y : Int32} {f : Nat → zM → Option (β × zM)} (hty : newarray.typeOf at_ = ty) (hz : zTy ci = ty) (hw : Cond.arrayClass (newarray.typeOf at_) ∈ lw_all) (hcb : componentBytes (newarray.typeOf at_) ≤ 8) (h13 : 13 ≤ ci) (h17 : ci < 17) (hs : σ < 8192) (hk : σ % 32 = ci) (hra : ∀ (U : State) (cA : ClassId), U.vm.findClass ("[" ++ ty.toString) = some cA → va_RA U cA ty)
    (hdc : ∀ (cA n : Nat), arrV cA n (fun _ => defaultValue ty) = vp_cell cA (n, if ci < 16 then .inl (fun _ => 0) else if ci = 16 then .inr (.inl (fun _ => 0)) else .inr (.inr (.inr (.inr (fun _ => none))))))
    (d : decode cc pc = .ok (.newarray at_, 2)) (g : ∀ (n : Nat) (u1 : zM), kd n = ci → Go own cc nL rt ini fr lo tb ob Qf c0 s0 (pc + 2) A B (.ref n :: st) u1 (f n u1)) : Go own cc nL rt ini fr lo tb ob Qf c0 s0 pc A B (.int y :: st) u (gs y (lt (nx u σ) (fun n => lt (mkc u σ (xN y) (xN y)) (f n)))) := by
  refine go_gs fun hy => ?_
  refine go_make hs (by omega) (fun h => (okS_cons.mp h).2) (fun K p l e R s m args below meth c H locs ls cells slots Q hc hC q1 q2 kk => ?_) (fun n u1 hn => g n u1 (hn.trans hk))
  have hts := hc.2.2.2.2.2.1
  refine W.newa hc.1 hc.2.1 (hts _ hw) rfl d rfl (fun q => hy (Or.inl q)) ?_ q1 q2 fun cA kA comp h1 h2 h3 => kk _ (by simp) (fun q hq => by rw [Array.getElem?_push, if_neg (Nat.ne_of_lt hq)]) ?_
  · have : y.toNatClampNeg ≤ 65536 := by
      rcases Nat.lt_or_ge 65536 y.toNatClampNeg with q | q
      · exact absurd (Or.inr q) hy
      · exact q
    calc y.toNatClampNeg * componentBytes (newarray.typeOf at_) ≤ 65536 * 8 := Nat.mul_le_mul this hcb
      _ ≤ 536870912 := by decide
  · unfold zCell
    rw [hk, if_neg (by omega)]
    rw [hty] at h1 h3
    refine ⟨cA, ?_, ?_, ?_⟩
    · rw [hz]
      exact fun n z => ⟨fun k h => (by cases h), kA, h2, comp, h3⟩
    · rw [hz]
      exact hra s cA h1
    · rw [← hdc, hty, ← arrV_new]
      simp
theorem go_newa_int {σ : Nat} {y : Int32} {f : Nat → zM → Option (β × zM)} (hs : σ < 8192) (hk : σ % 32 = 13) (d : decode cc pc = .ok (.newarray .int, 2)) (g : ∀ (n : Nat) (u1 : zM), kd n = 13 → Go own cc nL rt ini fr lo tb ob Qf c0 s0 (pc + 2) A B (.ref n :: st) u1 (f n u1)) : Go own cc nL rt ini fr lo tb ob Qf c0 s0 pc A B (.int y :: st) u (gs y (lt (nx u σ) (fun n => lt (mkc u σ (xN y) (xN y)) (f n)))) :=
  go_newa (at_ := .int) (ty := .int) (ci := 13) rfl rfl q167 (by decide) (by decide) (by decide) hs hk (fun U cA h => h) (fun cA n => rfl) d g
theorem go_newa_byte {σ : Nat} {y : Int32} {f : Nat → zM → Option (β × zM)} (hs : σ < 8192) (hk : σ % 32 = 14) (d : decode cc pc = .ok (.newarray .byte, 2)) (g : ∀ (n : Nat) (u1 : zM), kd n = 14 → Go own cc nL rt ini fr lo tb ob Qf c0 s0 (pc + 2) A B (.ref n :: st) u1 (f n u1)) : Go own cc nL rt ini fr lo tb ob Qf c0 s0 pc A B (.int y :: st) u (gs y (lt (nx u σ) (fun n => lt (mkc u σ (xN y) (xN y)) (f n)))) :=
  go_newa (at_ := .byte) (ty := .byte) (ci := 14) rfl rfl q168 (by decide) (by decide) (by decide) hs hk (fun U cA h => h) (fun cA n => rfl) d g
theorem go_newa_bool {σ : Nat} {y : Int32} {f : Nat → zM → Option (β × zM)} (hs : σ < 8192) (hk : σ % 32 = 15) (d : decode cc pc = .ok (.newarray .boolean, 2)) (g : ∀ (n : Nat) (u1 : zM), kd n = 15 → Go own cc nL rt ini fr lo tb ob Qf c0 s0 (pc + 2) A B (.ref n :: st) u1 (f n u1)) : Go own cc nL rt ini fr lo tb ob Qf c0 s0 pc A B (.int y :: st) u (gs y (lt (nx u σ) (fun n => lt (mkc u σ (xN y) (xN y)) (f n)))) :=
  go_newa (at_ := .boolean) (ty := .boolean) (ci := 15) rfl rfl q1540 (by decide) (by decide) (by decide) hs hk (fun U cA h => h) (fun cA n => rfl) d g
theorem go_newa_long {σ : Nat} {y : Int32} {f : Nat → zM → Option (β × zM)} (hs : σ < 8192) (hk : σ % 32 = 16) (d : decode cc pc = .ok (.newarray .long, 2)) (g : ∀ (n : Nat) (u1 : zM), kd n = 16 → Go own cc nL rt ini fr lo tb ob Qf c0 s0 (pc + 2) A B (.ref n :: st) u1 (f n u1)) : Go own cc nL rt ini fr lo tb ob Qf c0 s0 pc A B (.int y :: st) u (gs y (lt (nx u σ) (fun n => lt (mkc u σ (xN y) (xN y)) (f n)))) :=
  go_newa (at_ := .long) (ty := .long) (ci := 16) rfl rfl q1539 (by decide) (by decide) (by decide) hs hk (fun U cA h => h) (fun cA n => rfl) d g
/-- anewarray of a class -/
theorem go_anew {idx ci σ : Nat} {C : String} {y : Int32} {f : Nat → zM → Option (β × zM)} (hz : zTy ci = .object C) (hl : Cond.classLink own idx C ∈ lw_all) (ho : C ∈ zAo) (h17 : 17 ≤ ci) (h27 : ci < 27) (hs : σ < 8192) (hk : σ % 32 = ci) (d : decode cc pc = .ok (.anewarray idx, 3)) (g : ∀ (n : Nat) (u1 : zM), kd n = ci → Go own cc nL rt ini fr lo tb ob Qf c0 s0 (pc + 3) A B (.ref n :: st) u1 (f n u1)) : Go own cc nL rt ini fr lo tb ob Qf c0 s0 pc A B (.int y :: st) u (gs y (lt (nx u σ) (fun n => lt (mkc u σ (xN y) (xN y)) (f n)))) := by
  refine go_gs fun hy => ?_
  refine go_make hs (by omega) (fun h => (okS_cons.mp h).2) (fun K p l e R s m args below meth c H locs ls cells slots Q hc hC q1 q2 kk => ?_) (fun n u1 hn => g n u1 (hn.trans hk))
  have hts := hc.2.2.2.2.2.1
  refine W.anew hc.1 hc.2.1 hc.2.2.2.2.1 (hts _ hl) ((hc.2.2.2.2.2.2.2.2.2.2.1.2.2.2.2.1 C ho).use) rfl d rfl (fun q => hy (Or.inl q)) ?_ q1 q2 fun cA kA comp h1 h2 h3 h4 => kk _ (by simp) (fun q hq => by rw [Array.getElem?_push, if_neg (Nat.ne_of_lt hq)]) ?_
  · have : y.toNatClampNeg ≤ 65536 := by
      rcases Nat.lt_or_ge 65536 y.toNatClampNeg with q | q
      · exact absurd (Or.inr q) hy
      · exact q
    omega
  · unfold zCell
    rw [hk, if_neg (by omega), hz]
    refine ⟨cA, ?_, ⟨kA, comp, h2, h3, h4, h1⟩, ?_⟩
    · exact fun n z => ⟨fun k h => (by cases h), kA, h2, comp, h3⟩
    · rw [if_neg (by omega), if_neg (by omega)]
      show _ = some (arrV cA (xN y) (fun j => va_rf none))
      rw [show (fun j : Nat => va_rf none) = (fun _ => Value.null) from rfl, ← arrV_new]
      simp
/-- Object's constructor -/
theorem go_objInit {idx n : Nat} (hl : Cond.methodLink own idx Lib.objectInit ∈ lw_all) (hi : Cond.instanceMethod Lib.objectInit ∈ lw_all) (hcd : Cond.code Lib.objectInit ⟨#[0xb1]⟩ 1 none ∈ lw_all) (hfr : 1 ≤ fr) (hlo : (st.map fun v => v.category).sum + 12 ≤ lo) (d : decode cc pc = .ok (.invokespecial idx, 3)) (g : Go own cc nL rt ini fr lo tb ob Qf c0 s0 (pc + 3) A B st u o) : Go own cc nL rt ini fr lo tb ob Qf c0 s0 pc A B (.ref n :: st) u o := by
  refine go_pure (pc' := pc + 3) (st := .ref n :: st) (st' := st) (fun hwf hA hS => (okS_cons.mp hS).2) (fun K p l e R s m args below meth c H locs ls cells slots Q hc hL hwf hS hC kk => ?_) g
  have hts := hc.2.2.2.2.2.1
  refine W.objInit hc.1 hc.2.1 hc.2.2.2.2.1 (hts _ hl) (hts _ hi) (hts _ hcd) rfl (by rw [hc.2.2.2.1]; exact hL.1) rfl d (Nat.le_trans hfr hc.2.2.2.2.2.2.2.2.1) ?_ kk
  have e1 : (st.map (cv K u)).map (fun v => v.category) = st.map (fun v => v.category) := by
    rw [List.map_map]
    exact List.map_congr_left fun v _ => cat_cv v
  show 2 * 0 + _ + 12 ≤ _
  rw [e1]
  have := hc.2.2.2.2.2.2.2.2.2.1
  omega
end GM
