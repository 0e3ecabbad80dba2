set_option maxRecDepth 100000
/-! ===== THE MEMORY BY NAMES: cells have names (8192 * i + site; kind = name % 32), whole numbers, longs, references in maps ===== -/
abbrev zM : Type := (Nat → Nat → Int32) × (Nat → Nat → Option Nat) × (Nat → Nat → Int64) × (Nat → Nat) × (Nat → Nat) × (Nat → Nat) × Nat × Nat
/-- whole number at the slot k of the cell n -/
def mI (u : zM) (n k : Nat) : Int32 := u.1 n k
/-- reference -/
def mR (u : zM) (n k : Nat) : Option Nat := u.2.1 n k
/-- long -/
def mL (u : zM) (n k : Nat) : Int64 := u.2.2.1 n k
/-- length of an array -/
def mN (u : zM) (n : Nat) : Nat := u.2.2.2.1 n
/-- when it was made -/
def mA (u : zM) (n : Nat) : Nat := u.2.2.2.2.1 n
/-- how many of a site -/
def mK (u : zM) (s : Nat) : Nat := u.2.2.2.2.2.1 s
/-- cells made, slots made -/
def mC (u : zM) : Nat := u.2.2.2.2.2.2.1
def mS (u : zM) : Nat := u.2.2.2.2.2.2.2
def u2 {α : Type} (f : Nat → Nat → α) (n k : Nat) (v : α) : Nat → Nat → α := fun a b => if a = n ∧ b = k then v else f a b
def u1 {α : Type} (f : Nat → α) (n : Nat) (v : α) : Nat → α := fun a => if a = n then v else f a
def sI (u : zM) (n k : Nat) (v : Int32) : zM := (u2 u.1 n k v, u.2)
def sR (u : zM) (n k : Nat) (v : Option Nat) : zM := (u.1, u2 u.2.1 n k v, u.2.2)
def sL (u : zM) (n k : Nat) (v : Int64) : zM := (u.1, u.2.1, u2 u.2.2.1 n k v, u.2.2.2)
def nm (s i : Nat) : Nat := 8192 * i + s
def nS (n : Nat) : Nat := n % 8192
def nK (n : Nat) : Nat := n / 8192
def kd (n : Nat) : Nat := n % 32
/-- the name that the site s gives next -/
def nx (u : zM) (s : Nat) : Nat := nm s (mK u s)
def clr {α : Type} (f : Nat → Nat → α) (n : Nat) (v : α) : Nat → Nat → α := fun a b => if a = n then v else f a b
/-- a new cell of the site s: all 0 or null, len places, sl slots -/
def mkc (u : zM) (s len sl : Nat) : zM := (clr u.1 (nx u s) 0, clr u.2.1 (nx u s) none, clr u.2.2.1 (nx u s) 0, u1 u.2.2.2.1 (nx u s) len, u1 u.2.2.2.2.1 (nx u s) (mC u), u1 u.2.2.2.2.2.1 s (mK u s + 1), mC u + 1, mS u + sl)
def al (u : zM) (n : Nat) : Prop := nK n < mK u (nS n)
theorem mI_sI (u : zM) (n k : Nat) (v : Int32) (a b : Nat) : mI (sI u n k v) a b = if a = n ∧ b = k then v else mI u a b := rfl
theorem mR_sR (u : zM) (n k : Nat) (v : Option Nat) (a b : Nat) : mR (sR u n k v) a b = if a = n ∧ b = k then v else mR u a b := rfl
theorem mL_sL (u : zM) (n k : Nat) (v : Int64) (a b : Nat) : mL (sL u n k v) a b = if a = n ∧ b = k then v else mL u a b := rfl
theorem mR_sI (u : zM) (n k : Nat) (v : Int32) : mR (sI u n k v) = mR u := rfl
theorem mL_sI (u : zM) (n k : Nat) (v : Int32) : mL (sI u n k v) = mL u := rfl
theorem mN_sI (u : zM) (n k : Nat) (v : Int32) : mN (sI u n k v) = mN u := rfl
theorem mA_sI (u : zM) (n k : Nat) (v : Int32) : mA (sI u n k v) = mA u := rfl
theorem mK_sI (u : zM) (n k : Nat) (v : Int32) : mK (sI u n k v) = mK u := rfl
theorem mC_sI (u : zM) (n k : Nat) (v : Int32) : mC (sI u n k v) = mC u := rfl
theorem mS_sI (u : zM) (n k : Nat) (v : Int32) : mS (sI u n k v) = mS u := rfl
theorem mI_sR (u : zM) (n k : Nat) (v : Option Nat) : mI (sR u n k v) = mI u := rfl
theorem mL_sR (u : zM) (n k : Nat) (v : Option Nat) : mL (sR u n k v) = mL u := rfl
theorem mN_sR (u : zM) (n k : Nat) (v : Option Nat) : mN (sR u n k v) = mN u := rfl
theorem mA_sR (u : zM) (n k : Nat) (v : Option Nat) : mA (sR u n k v) = mA u := rfl
theorem mK_sR (u : zM) (n k : Nat) (v : Option Nat) : mK (sR u n k v) = mK u := rfl
theorem mC_sR (u : zM) (n k : Nat) (v : Option Nat) : mC (sR u n k v) = mC u := rfl
theorem mS_sR (u : zM) (n k : Nat) (v : Option Nat) : mS (sR u n k v) = mS u := rfl
theorem mI_sL (u : zM) (n k : Nat) (v : Int64) : mI (sL u n k v) = mI u := rfl
theorem mR_sL (u : zM) (n k : Nat) (v : Int64) : mR (sL u n k v) = mR u := rfl
theorem mN_sL (u : zM) (n k : Nat) (v : Int64) : mN (sL u n k v) = mN u := rfl
theorem mA_sL (u : zM) (n k : Nat) (v : Int64) : mA (sL u n k v) = mA u := rfl
theorem mK_sL (u : zM) (n k : Nat) (v : Int64) : mK (sL u n k v) = mK u := rfl
theorem mC_sL (u : zM) (n k : Nat) (v : Int64) : mC (sL u n k v) = mC u := rfl
theorem mS_sL (u : zM) (n k : Nat) (v : Int64) : mS (sL u n k v) = mS u := rfl
theorem mI_mkc (u : zM) (s len sl a b : Nat) : mI (mkc u s len sl) a b = if a = nx u s then 0 else mI u a b := rfl
theorem mR_mkc (u : zM) (s len sl a b : Nat) : mR (mkc u s len sl) a b = if a = nx u s then none else mR u a b := rfl
theorem mL_mkc (u : zM) (s len sl a b : Nat) : mL (mkc u s len sl) a b = if a = nx u s then 0 else mL u a b := rfl
theorem mN_mkc (u : zM) (s len sl a : Nat) : mN (mkc u s len sl) a = if a = nx u s then len else mN u a := rfl
theorem mA_mkc (u : zM) (s len sl a : Nat) : mA (mkc u s len sl) a = if a = nx u s then mC u else mA u a := rfl
theorem mK_mkc (u : zM) (s len sl a : Nat) : mK (mkc u s len sl) a = if a = s then mK u s + 1 else mK u a := rfl
theorem mC_mkc (u : zM) (s len sl : Nat) : mC (mkc u s len sl) = mC u + 1 := rfl
theorem mS_mkc (u : zM) (s len sl : Nat) : mS (mkc u s len sl) = mS u + sl := rfl
theorem nS_nm {s i : Nat} (h : s < 8192) : nS (nm s i) = s := by unfold nS nm; omega
theorem nK_nm {s i : Nat} (h : s < 8192) : nK (nm s i) = i := by unfold nK nm; omega
theorem kd_nm (s i : Nat) : kd (nm s i) = s % 32 := by unfold kd nm; omega
theorem kd_nx (u : zM) (s : Nat) : kd (nx u s) = s % 32 := kd_nm _ _
theorem nm_eq {s i s' i' : Nat} (h : s < 8192) (h' : s' < 8192) : nm s i = nm s' i' ↔ s = s' ∧ i = i' := by unfold nm; omega
theorem nm_of (n : Nat) : nm (nS n) (nK n) = n := by unfold nm nS nK; omega
theorem al_nm {u : zM} {s i : Nat} (h : s < 8192) : al u (nm s i) ↔ i < mK u s := by unfold al; rw [nS_nm h, nK_nm h]
theorem al_sI {u : zM} {n k : Nat} {v : Int32} {a : Nat} : al (sI u n k v) a ↔ al u a := Iff.rfl
theorem al_sR {u : zM} {n k : Nat} {v : Option Nat} {a : Nat} : al (sR u n k v) a ↔ al u a := Iff.rfl
theorem al_sL {u : zM} {n k : Nat} {v : Int64} {a : Nat} : al (sL u n k v) a ↔ al u a := Iff.rfl
theorem al_nx {u : zM} {s : Nat} (h : s < 8192) : ¬ al u (nx u s) := by unfold nx; rw [al_nm h]; omega
theorem al_mkc {u : zM} {s len sl a : Nat} (h : s < 8192) : al (mkc u s len sl) a ↔ al u a ∨ a = nx u s := by
  unfold al
  rw [mK_mkc]
  constructor
  · intro q
    split at q
    · rename_i e
      rcases Nat.lt_or_ge (nK a) (mK u s) with h1 | h1
      · left; rw [e]; exact h1
      · right
        have : nK a = mK u s := by omega
        unfold nx; rw [← this, ← e]; exact (nm_of a).symm
    · exact Or.inl q
  · intro q
    rcases q with q | q
    · split
      · rename_i e; rw [e] at q; omega
      · exact q
    · subst q
      have h1 : nS (nx u s) = s := nS_nm h
      have h2 : nK (nx u s) = mK u s := nK_nm h
      rw [h1, h2, if_pos rfl]
      omega
/-- the classes whose objects the memory holds, by kind; 7 (Hanks, never made) stands for nothing -/
abbrev zCl : List vw_C := [(RX0, TX0, 35), (RX1, TX1, 8), (RX2, TX2, 11), (RX3, TX3, 97), (RX4, TX4, 18), (RX5, TX5, 16), (RX6, TX6, 4), (RX6, TX6, 4), (RX8, TX8, 7), (RX9, TX9, 2), (RX10, TX10, 1), (RX11, TX11, 7), (RX12, TX12, 6)]
/-- the kinds of the slots: 0 whole numbers, else the kind of what is referred to, and 1 -/
def zTab : List (List Nat) := [[18, 19, 20, 21, 22, 14, 14, 14, 14, 14, 14, 14, 15, 2, 0, 0, 0, 0, 0, 0, 0, 0, 0, 0, 0, 0, 0, 3, 14, 14, 14, 14, 14, 14, 0], [15, 14, 15, 0, 0, 0, 0, 0], [20, 19, 14, 14, 14, 0, 0, 0, 0, 0, 1], [0, 0, 0, 24, 24, 24, 14, 14, 14, 14, 14, 14, 14, 14, 14, 14, 14, 14, 14, 14, 14, 14, 14, 14, 14, 14, 14, 14, 14, 14, 14, 14, 14, 14, 17, 14, 14, 14, 0, 14, 15, 0, 0, 0, 0, 0, 0, 0, 25, 24, 14, 14, 0, 0, 27, 27, 14, 14, 14, 14, 14, 14, 14, 14, 0, 14, 14, 14, 14, 0, 0, 0, 14, 14, 14, 14, 14, 16, 0, 14, 14, 14, 14, 14, 26, 24, 0, 0, 0, 0, 0, 24, 14, 14, 14, 14, 0], [0, 0, 14, 14, 0, 0, 0, 0, 0, 0, 0, 0, 0, 0, 0, 0, 0, 0], [0, 0, 0, 5, 0, 0, 0, 0, 0, 0, 0, 0, 0, 0, 0, 7], [0, 0, 0, 0], [0, 0, 0, 0], [6, 0, 0, 0, 0, 0, 0], [15, 14], [23], [12, 12, 12, 12, 12, 0, 0], [6, 0, 9, 0, 0, 5]]
/-- what an array of a kind holds -/
def zEl (c : Nat) : Nat := [0, 0, 0, 0, 5, 6, 9, 13, 11, 10, 14, 24, 16, 28].getD (c - 13) 0
def fT (c k : Nat) : Nat := if c < 13 then (zTab.getD c []).getD k 0 else zEl c
def zN (c : Nat) : Nat := [35, 8, 11, 97, 18, 16, 4, 4, 7, 2, 1, 7, 6].getD c 0
def zTy (c : Nat) : FieldType := [FieldType.int, .byte, .boolean, .long, .object RX4, .object RX5, .object RX8, .object RX12, .object RX10, .object RX9, .array .int, .array (.array .int), .array .boolean, .object "java/lang/String"].getD (c - 13) .int
/-- the String constants: class, entry, text -/
def zStr : List (String × Nat × String) := [("WheelLand$Reader", 39, "+-*/()[]<>=;"), ("WheelLand$Reader", 89, "owe wage duty may stamp "), ("WheelLand$Reader", 134, "week season heads wheels skill caste other count strength hanks idle far price "), ("WheelLand$Reader", 150, "not "), ("WheelLand$Reader", 148, "and "), ("WheelLand$Reader", 139, "or "), ("WheelLandModel", 141, "owe"), ("WheelLandModel", 143, "wage"), ("WheelLandModel", 145, "duty"), ("WheelLandModel", 147, "may"), ("WheelLandModel", 149, "stamp"), ("WheelLandModel", 155, "week"), ("WheelLandModel", 157, "season"), ("WheelLandModel", 159, "heads"), ("WheelLandModel", 160, "wheels"), ("WheelLandModel", 161, "skill"), ("WheelLandModel", 162, "caste"), ("WheelLandModel", 163, "other"), ("WheelLandModel", 165, "count"), ("WheelLandModel", 167, "strength"), ("WheelLandModel", 169, "hanks"), ("WheelLandModel", 171, "idle"), ("WheelLandModel", 172, "far"), ("WheelLandModel", 174, "price"), ("WheelLandModel", 392, "not"), ("WheelLandModel", 400, "and"), ("WheelLandModel", 405, "or")]
def zLen : List Nat := [12, 24, 79, 4, 4, 3, 3, 4, 4, 3, 5, 4, 6, 5, 6, 5, 5, 5, 5, 8, 5, 4, 3, 5, 3, 3, 2]
def zByt : List (List Int32) := [[43, 45, 42, 47, 40, 41, 91, 93, 60, 62, 61, 59], [111, 119, 101, 32, 119, 97, 103, 101, 32, 100, 117, 116, 121, 32, 109, 97, 121, 32, 115, 116, 97, 109, 112, 32], [119, 101, 101, 107, 32, 115, 101, 97, 115, 111, 110, 32, 104, 101, 97, 100, 115, 32, 119, 104, 101, 101, 108, 115, 32, 115, 107, 105, 108, 108, 32, 99, 97, 115, 116, 101, 32, 111, 116, 104, 101, 114, 32, 99, 111, 117, 110, 116, 32, 115, 116, 114, 101, 110, 103, 116, 104, 32, 104, 97, 110, 107, 115, 32, 105, 100, 108, 101, 32, 102, 97, 114, 32, 112, 114, 105, 99, 101, 32], [110, 111, 116, 32], [97, 110, 100, 32], [111, 114, 32], [111, 119, 101], [119, 97, 103, 101], [100, 117, 116, 121], [109, 97, 121], [115, 116, 97, 109, 112], [119, 101, 101, 107], [115, 101, 97, 115, 111, 110], [104, 101, 97, 100, 115], [119, 104, 101, 101, 108, 115], [115, 107, 105, 108, 108], [99, 97, 115, 116, 101], [111, 116, 104, 101, 114], [99, 111, 117, 110, 116], [115, 116, 114, 101, 110, 103, 116, 104], [104, 97, 110, 107, 115], [105, 100, 108, 101], [102, 97, 114], [112, 114, 105, 99, 101], [110, 111, 116], [97, 110, 100], [111, 114]]
/-- the memory is closed: what a made cell refers to is made, and of the kind that the slot says; the String constants are there -/
def zWf (u : zM) : Prop := (∀ n k n', al u n → fT (kd n) k ≠ 0 → mR u n k = some n' → al u n' ∧ kd n' + 1 = fT (kd n) k) ∧ (∀ i, i < 27 → al u (nm 27 i) ∧ al u (nm 28 i) ∧ mN u (nm 28 i) = zLen.getD i 0 ∧ ∀ j, mI u (nm 28 i) j = (zByt.getD i []).getD j 0) ∧ ∀ n, al u n → 27 ≤ kd n → ((nS n = 27 ∨ nS n = 28) ∧ nK n < 27) ∨ n = nm 30 0
/-- nothing made is lost -/
def zEx (u u' : zM) : Prop := mC u ≤ mC u' ∧ mS u ≤ mS u' ∧ ∀ n, al u n → al u' n ∧ mA u' n = mA u n
theorem zEx.rf {u : zM} : zEx u u := ⟨Nat.le_refl _, Nat.le_refl _, fun _ h => ⟨h, rfl⟩⟩
theorem zEx.tr {u v w : zM} (h : zEx u v) (g : zEx v w) : zEx u w := ⟨Nat.le_trans h.1 g.1, Nat.le_trans h.2.1 g.2.1, fun n q => ⟨(g.2.2 n (h.2.2 n q).1).1, ((g.2.2 n (h.2.2 n q).1).2).trans (h.2.2 n q).2⟩⟩
theorem zEx_sI {u : zM} {n k : Nat} {v : Int32} : zEx u (sI u n k v) := zEx.rf
theorem zEx_sR {u : zM} {n k : Nat} {v : Option Nat} : zEx u (sR u n k v) := zEx.rf
theorem zEx_sL {u : zM} {n k : Nat} {v : Int64} : zEx u (sL u n k v) := zEx.rf
theorem zEx_mkc {u : zM} {s len sl : Nat} (h : s < 8192) : zEx u (mkc u s len sl) := ⟨Nat.le_succ _, Nat.le_add_right _ _, fun n q => ⟨(al_mkc h).mpr (Or.inl q), by rw [mA_mkc, if_neg]; exact fun e => al_nx h (e ▸ q)⟩⟩
theorem zWf_sI {u : zM} {n k : Nat} {v : Int32} (h : zWf u) (hk : kd n ≠ 28) : zWf (sI u n k v) := by
  refine ⟨h.1, fun i hi => ?_, h.2.2⟩
  obtain ⟨h1, h2, h3, h4⟩ := h.2.1 i hi
  refine ⟨h1, h2, h3, fun j => ?_⟩
  rw [mI_sI, if_neg]
  · exact h4 j
  · intro q
    apply hk
    rw [← q.1, kd_nm]
theorem zWf_sL {u : zM} {n k : Nat} {v : Int64} (h : zWf u) : zWf (sL u n k v) := h
theorem zWf_sR {u : zM} {n k : Nat} {v : Option Nat} (h : zWf u) (hv : ∀ n', v = some n' → al u n' ∧ kd n' + 1 = fT (kd n) k) : zWf (sR u n k v) := by
  refine ⟨fun a b n' h1 h2 h3 => ?_, h.2⟩
  rw [mR_sR] at h3
  split at h3
  · rename_i q
    rw [q.1, q.2]
    exact hv n' h3
  · exact h.1 a b n' h1 h2 h3
theorem zWf_mkc {u : zM} {s len sl : Nat} (h : zWf u) (hs : s < 8192) (hk : s % 32 < 27) : zWf (mkc u s len sl) := by
  have h9 : ∀ (t i : Nat), t = 27 ∨ t = 28 → nm t i ≠ nx u s := by
    intro t i ht e
    have := congrArg kd e
    rw [kd_nm, kd_nx] at this
    rcases ht with rfl | rfl <;> omega
  refine ⟨fun a b n' h1 h2 h3 => ?_, fun i hi => ?_, fun n h1 h2 => ?_⟩
  · rw [mR_mkc] at h3
    split at h3
    · cases h3
    · rename_i q
      rcases (al_mkc hs).mp h1 with h1 | h1
      · obtain ⟨h4, h5⟩ := h.1 a b n' h1 h2 h3
        exact ⟨(al_mkc hs).mpr (Or.inl h4), h5⟩
      · exact absurd h1 q
  · obtain ⟨h1, h2, h3, h4⟩ := h.2.1 i hi
    refine ⟨(al_mkc hs).mpr (Or.inl h1), (al_mkc hs).mpr (Or.inl h2), ?_, fun j => ?_⟩
    · rw [mN_mkc, if_neg (h9 28 i (Or.inr rfl))]; exact h3
    · rw [mI_mkc, if_neg (h9 28 i (Or.inr rfl))]; exact h4 j
  · rcases (al_mkc hs).mp h1 with h1 | h1
    · exact h.2.2 n h1 h2
    · rw [h1, kd_nx] at h2
      omega
/-! ===== the machine's heap against the memory ===== -/
/-- classes and slots as the tables have them; where the law's own cells begin; where the String constants and their bytes lie -/
abbrev zK : Type := va_G × Nat × (Nat → Nat) × (Nat → Nat) × Nat
def z0 (K : zK) : Nat := K.2.1
def zA (K : zK) : Nat → Prop := fun q => K.2.1 ≤ q
def ad (K : zK) (u : zM) (n : Nat) : Nat := if kd n = 27 then K.2.2.1 (nK n) else if kd n = 28 then K.2.2.2.1 (nK n) else if kd n = 30 then K.2.2.2.2 else K.2.1 + mA u n
def cv (K : zK) (u : zM) (v : Value) : Value := match v with
  | .ref n => .ref (ad K u n)
  | v => v
theorem cv_int (K : zK) (u : zM) (x : Int32) : cv K u (.int x) = .int x := rfl
theorem cv_long (K : zK) (u : zM) (x : Int64) : cv K u (.long x) = .long x := rfl
theorem cv_null (K : zK) (u : zM) : cv K u .null = .null := rfl
theorem cv_ref (K : zK) (u : zM) (n : Nat) : cv K u (.ref n) = .ref (ad K u n) := rfl
theorem cv_rf (K : zK) (u : zM) (r : Option Nat) : cv K u (va_rf r) = va_rf (r.map (ad K u)) := by cases r <;> rfl
/-- the cell at a, of the kind c -/
def zCell (D : va_G) (U : State) (H : Heap) (a c len : Nat) (vI : Nat → Int32) (vL : Nat → Int64) (vR : Nat → Option Nat) : Prop :=
  if c < 13 then va_at D zCl (a, .inr (c, (List.range (zN c)).map (fun k => if fT c k = 0 then .int (vI k) else va_rf (vR k)))) H
  else ∃ cA, ArrOfT U cA (zTy c) ∧ va_RA U cA (zTy c) ∧ H[a]? = some (vp_cell cA (len, if c < 16 then .inl vI else if c = 16 then .inr (.inl vL) else .inr (.inr (.inr (.inr vR)))))
def zAt (K : zK) (U : State) (u : zM) (n : Nat) (H : Heap) : Prop := zCell K.1 U H (ad K u n) (kd n) (mN u n) (mI u n) (mL u n) (fun k => (mR u n k).map (ad K u))
theorem zCell.kept {D : va_G} {U : State} {H H1 : Heap} {a c len : Nat} {vI : Nat → Int32} {vL : Nat → Int64} {vR : Nat → Option Nat} (h : zCell D U H a c len vI vL vR) (hq : H1[a]? = H[a]?) : zCell D U H1 a c len vI vL vR := by
  unfold zCell at h ⊢
  split
  · rename_i hc
    rw [if_pos hc] at h
    exact h.kept hq
  · rename_i hc
    rw [if_neg hc] at h
    obtain ⟨cA, h1, h2, h3⟩ := h
    exact ⟨cA, h1, h2, hq.trans h3⟩
theorem zCell.moved {D : va_G} {u U : State} {H : Heap} {a c len : Nat} {vI : Nat → Int32} {vL : Nat → Int64} {vR : Nat → Option Nat} (hvm : u.vm.Alike U.vm) (h : zCell D u H a c len vI vL vR) : zCell D U H a c len vI vL vR := by
  unfold zCell at h ⊢
  split
  · rename_i hc
    rw [if_pos hc] at h
    exact h
  · rename_i hc
    rw [if_neg hc] at h
    obtain ⟨cA, h1, h2, h3⟩ := h
    exact ⟨cA, arrOfT_moved hvm h1, h2.moved hvm, h3⟩
theorem zCell.lt {D : va_G} {U : State} {H : Heap} {a c len : Nat} {vI : Nat → Int32} {vL : Nat → Int64} {vR : Nat → Option Nat} (h : zCell D U H a c len vI vL vR) : a < H.size := by
  unfold zCell at h
  split at h
  · exact h.lt
  · obtain ⟨cA, h1, h2, h3⟩ := h
    exact (Array.getElem?_eq_some_iff.mp h3).1
/-- what is there beside the law's cells: the String constants, the statics that are read -/
def zSt (K : zK) (U : State) (H : Heap) : Prop := vk_S 27 zLen zByt K.2.2.1 K.2.2.2.1 (zA K) U H ∧ va_Z "java/lang/String" "COMPACT_STRINGS" "Z" (.int 1) (zA K) U H ∧ va_Zq "jdk/internal/util/Preconditions" "SIOOBE_FORMATTER" "Ljava/util/function/BiFunction;" (zA K) U H ∧ va_Zq "java/lang/Throwable" "UNASSIGNED_STACK" "[Ljava/lang/StackTraceElement;" (zA K) U H ∧ va_Zq "java/lang/Throwable" "SUPPRESSED_SENTINEL" "Ljava/util/List;" (zA K) U H
theorem zSt.kept {K : zK} {U : State} {H H1 : Heap} (h : zSt K U H) (hq : ∀ a : Nat, a < H.size → ¬ zA K a → H1[a]? = H[a]?) : zSt K U H1 :=
  ⟨h.1.kept hq, h.2.1.kept hq, h.2.2.1.kept hq, h.2.2.2.1.kept hq, h.2.2.2.2.kept hq⟩
theorem zSt.moved {K : zK} {u U : State} {H : Heap} (hvm : u.vm.Alike U.vm) (h : zSt K u H) : zSt K U H :=
  ⟨h.1.moved hvm, h.2.1.moved hvm, h.2.2.1.moved hvm, h.2.2.2.1.moved hvm, h.2.2.2.2.moved hvm⟩
/-- the heap holds the memory -/
def Cz (K : zK) (U : State) (u : zM) (H : Heap) : Prop :=
  (∀ n, al u n → kd n < 27 → zAt K U u n H ∧ mA u n < mC u) ∧ (∀ n n', al u n → al u n' → kd n < 27 → kd n' < 27 → mA u n = mA u n' → n = n') ∧ H.size = K.2.1 + mC u ∧ zSt K U H ∧ K.2.2.2.2 < K.2.1 ∧ va_X K.2.2.2.2 (mN u (nm 30 0)) (mI u (nm 30 0)) U H
theorem ad_own {K : zK} {u : zM} {n : Nat} (h : kd n < 27) : ad K u n = K.2.1 + mA u n := by
  unfold ad
  rw [if_neg (by omega), if_neg (by omega), if_neg (by omega)]
theorem ad_ex {K : zK} {u u' : zM} {n : Nat} (h : zEx u u') (ha : al u n) : ad K u' n = ad K u n := by
  unfold ad
  rw [(h.2.2 n ha).2]
theorem Cz.moved {K : zK} {s U : State} {u : zM} {H : Heap} (hvm : s.vm.Alike U.vm) (h : Cz K s u H) : Cz K U u H :=
  ⟨fun n h1 h2 => ⟨(h.1 n h1 h2).1.moved hvm, (h.1 n h1 h2).2⟩, h.2.1, h.2.2.1, h.2.2.2.1.moved hvm, h.2.2.2.2.1, h.2.2.2.2.2.moved hvm⟩
/-- one cell has changed -/
theorem Cz.upd {K : zK} {U : State} {u u' : zM} {H H' : Heap} {n : Nat} (hC : Cz K U u H) (hn : al u n) (hk : kd n < 27) (hsz : H'.size = H.size) (hq : ∀ q, q ≠ ad K u n → H'[q]? = H[q]?)
    (hA : mA u' = mA u) (hK : mK u' = mK u) (hM : mC u' = mC u) (ho : ∀ n', n' ≠ n → mI u' n' = mI u n' ∧ mR u' n' = mR u n' ∧ mL u' n' = mL u n' ∧ mN u' n' = mN u n') (hc : zAt K U u' n H') : Cz K U u' H' := by
  have e1 : ∀ n', al u' n' ↔ al u n' := fun n' => by unfold al; rw [hK]
  have e2 : ∀ n', ad K u' n' = ad K u n' := fun n' => by unfold ad; rw [hA]
  have e2' : ad K u' = ad K u := funext e2
  have h30 : nm 30 0 ≠ n := fun e => by rw [← e] at hk; exact absurd hk (by decide)
  refine ⟨fun n' h1 h2 => ?_, fun a b h1 h2 h3 h4 h5 => ?_, ?_, ?_, hC.2.2.2.2.1, ?_⟩
  · obtain ⟨g1, g2⟩ := hC.1 n' ((e1 n').mp h1) h2
    refine ⟨?_, by rw [hA, hM]; exact g2⟩
    by_cases hnn : n' = n
    · rw [hnn]; exact hc
    · obtain ⟨i1, i2, i3, i4⟩ := ho n' hnn
      unfold zAt at g1 ⊢
      rw [i1, i3, i4, i2, e2']
      refine g1.kept (hq _ fun z => hnn ?_)
      rw [ad_own h2, ad_own hk] at z
      exact hC.2.1 n' n ((e1 n').mp h1) hn h2 hk (by omega)
  · rw [hA] at h5
    exact hC.2.1 a b ((e1 a).mp h1) ((e1 b).mp h2) h3 h4 h5
  · rw [hsz, hM]; exact hC.2.2.1
  · refine hC.2.2.2.1.kept fun a _ h2 => hq a fun z => h2 ?_
    rw [z, ad_own hk]
    exact Nat.le_add_right _ _
  · rw [(ho _ h30).1, (ho _ h30).2.2.2]
    refine hC.2.2.2.2.2.kept (hq _ fun z => ?_)
    rw [ad_own hk] at z
    have := hC.2.2.2.2.1
    omega
/-- one cell is new -/
theorem Cz.new {K : zK} {U : State} {u : zM} {H H' : Heap} {s len sl : Nat} (hC : Cz K U u H) (hs : s < 8192) (hk : s % 32 < 27) (hsz : H'.size = H.size + 1) (hq : ∀ q, q < H.size → H'[q]? = H[q]?)
    (hwf : zWf u) (hc : zCell K.1 U H' H.size (s % 32) len (fun _ => 0) (fun _ => 0) (fun _ => none)) : Cz K U (mkc u s len sl) H' := by
  have hnew : ¬ al u (nx u s) := al_nx hs
  have hkx : kd (nx u s) = s % 32 := kd_nx u s
  have hold : ∀ n, al u n → n ≠ nx u s := fun n h e => hnew (e ▸ h)
  have had : ∀ n, al u n → ad K (mkc u s len sl) n = ad K u n := fun n h => ad_ex (zEx_mkc hs) h
  have hax : ad K (mkc u s len sl) (nx u s) = H.size := by
    rw [ad_own (by rw [hkx]; exact hk), mA_mkc, if_pos rfl]
    exact hC.2.2.1.symm
  have h30 : nm 30 0 ≠ nx u s := fun e => by
    have := congrArg kd e
    rw [kd_nm, hkx] at this
    omega
  refine ⟨fun n h1 h2 => ?_, fun a b h1 h2 h3 h4 h5 => ?_, ?_, ?_, hC.2.2.2.2.1, ?_⟩
  · rcases (al_mkc hs).mp h1 with h1 | h1
    · obtain ⟨g1, g2⟩ := hC.1 n h1 h2
      refine ⟨?_, ?_⟩
      · unfold zAt at g1 ⊢
        have i1 : mI (mkc u s len sl) n = mI u n := funext fun k => by rw [mI_mkc, if_neg (hold n h1)]
        have i2 : mL (mkc u s len sl) n = mL u n := funext fun k => by rw [mL_mkc, if_neg (hold n h1)]
        have i3 : mN (mkc u s len sl) n = mN u n := by rw [mN_mkc, if_neg (hold n h1)]
        rw [i1, i2, i3, had n h1]
        by_cases hf : kd n < 13 ∨ 16 < kd n
        · have i4 : ∀ k, fT (kd n) k ≠ 0 → (mR (mkc u s len sl) n k).map (ad K (mkc u s len sl)) = (mR u n k).map (ad K u) := fun k hfk => by
            rw [mR_mkc, if_neg (hold n h1)]
            cases hr : mR u n k with
            | none => rfl
            | some n' => exact congrArg some (had n' (hwf.1 n k n' h1 hfk hr).1)
          unfold zCell at g1 ⊢
          split
          · rename_i hc13
            rw [if_pos hc13] at g1
            have g2 := g1.kept (hq _ g1.lt)
            have e9 : (List.range (zN (kd n))).map (fun k => if fT (kd n) k = 0 then Value.int (mI u n k) else va_rf ((mR (mkc u s len sl) n k).map (ad K (mkc u s len sl)))) = (List.range (zN (kd n))).map (fun k => if fT (kd n) k = 0 then Value.int (mI u n k) else va_rf ((mR u n k).map (ad K u))) := by
              refine List.map_congr_left fun k _ => ?_
              by_cases h0 : fT (kd n) k = 0
              · rw [if_pos h0, if_pos h0]
              · rw [if_neg h0, if_neg h0, i4 k h0]
            rw [e9]
            exact g2
          · rename_i hc13
            rw [if_neg hc13] at g1
            obtain ⟨cA, a1, a2, a3⟩ := g1
            refine ⟨cA, a1, a2, ?_⟩
            rw [hq _ (Array.getElem?_eq_some_iff.mp a3).1, a3]
            have hc16 : 16 < kd n := by omega
            have hfz : ∀ k, fT (kd n) k ≠ 0 := fun k => by
              unfold fT
              rw [if_neg hc13]
              have : kd n = 17 ∨ kd n = 18 ∨ kd n = 19 ∨ kd n = 20 ∨ kd n = 21 ∨ kd n = 22 ∨ kd n = 23 ∨ kd n = 24 ∨ kd n = 25 ∨ kd n = 26 := by omega
              rcases this with e | e | e | e | e | e | e | e | e | e <;> rw [e] <;> decide
            have i5 : (fun k => (mR (mkc u s len sl) n k).map (ad K (mkc u s len sl))) = (fun k => (mR u n k).map (ad K u)) := funext fun k => i4 k (hfz k)
            rw [i5]
        · have h13 : ¬ kd n < 13 := fun z => hf (Or.inl z)
          have h16 : kd n ≤ 16 := by omega
          unfold zCell at g1 ⊢
          rw [if_neg h13] at g1 ⊢
          obtain ⟨cA, a1, a2, a3⟩ := g1
          refine ⟨cA, a1, a2, ?_⟩
          rw [hq _ (Array.getElem?_eq_some_iff.mp a3).1, a3]
          by_cases h15 : kd n < 16
          · rw [if_pos h15, if_pos h15]
          · have h6 : kd n = 16 := by omega
            rw [if_neg h15, if_neg h15, if_pos h6, if_pos h6]
      · rw [mA_mkc, if_neg (hold n h1), mC_mkc]; omega
    · subst h1
      refine ⟨?_, by rw [mA_mkc, if_pos rfl, mC_mkc]; omega⟩
      unfold zAt
      rw [hax, hkx]
      have i1 : mI (mkc u s len sl) (nx u s) = fun _ => 0 := funext fun k => by rw [mI_mkc, if_pos rfl]
      have i2 : mL (mkc u s len sl) (nx u s) = fun _ => 0 := funext fun k => by rw [mL_mkc, if_pos rfl]
      have i3 : mN (mkc u s len sl) (nx u s) = len := by rw [mN_mkc, if_pos rfl]
      have i4 : (fun k => (mR (mkc u s len sl) (nx u s) k).map (ad K (mkc u s len sl))) = fun _ => none := funext fun k => by rw [mR_mkc, if_pos rfl]; rfl
      rw [i1, i2, i3, i4]
      exact hc
  · rw [mA_mkc, mA_mkc] at h5
    rcases (al_mkc hs).mp h1 with h1 | h1 <;> rcases (al_mkc hs).mp h2 with h2 | h2
    · rw [if_neg (hold a h1), if_neg (hold b h2)] at h5
      exact hC.2.1 a b h1 h2 h3 h4 h5
    · rw [if_neg (hold a h1), if_pos h2] at h5
      have := (hC.1 a h1 h3).2
      omega
    · rw [if_pos h1, if_neg (hold b h2)] at h5
      have := (hC.1 b h2 h4).2
      omega
    · rw [h1, h2]
  · rw [hsz, mC_mkc, hC.2.2.1]; omega
  · exact hC.2.2.2.1.kept fun a h1 _ => hq a h1
  · have i1 : mI (mkc u s len sl) (nm 30 0) = mI u (nm 30 0) := funext fun k => by rw [mI_mkc, if_neg h30]
    have i3 : mN (mkc u s len sl) (nm 30 0) = mN u (nm 30 0) := by rw [mN_mkc, if_neg h30]
    rw [i1, i3]
    refine hC.2.2.2.2.2.kept (hq _ ?_)
    have := hC.2.2.2.2.1
    rw [hC.2.2.1]
    omega
/-- nest mates' links: fields, methods -/
def zNf : List (String × Nat × String × String × String × String) := [("WheelLand", 448, "WheelLand$Hands", "asked", "[LWheelLand$Lot;", "WheelLand"), ("WheelLand", 456, "WheelLand$Hands", "looms", "[LWheelLand$House;", "WheelLand"), ("WheelLand", 453, "WheelLand$Hands", "best", "[I", "WheelLand"), ("WheelLand", 445, "WheelLand$Hands", "lotsTold", "I", "WheelLand"), ("WheelLand", 459, "WheelLand$Hands", "most", "I", "WheelLand"), ("WheelLand", 462, "WheelLand$Hands", "days", "I", "WheelLand"), ("WheelLand", 465, "WheelLand$Hands", "weeks", "I", "WheelLand"), ("WheelLand$Hands", 48, "WheelLand", "houses", "[LWheelLand$House;", "WheelLand"), ("WheelLand", 144, "WheelLand$Village", "number", "I", "WheelLand"), ("WheelLand$House", 44, "WheelLand$Village", "staple", "I", "WheelLand"), ("WheelLand$House", 32, "WheelLand$Village", "idle", "[I", "WheelLand"), ("WheelLand", 380, "WheelLand$Village", "idle", "[I", "WheelLand"), ("WheelLand", 221, "WheelLand$Village", "millAt", "[I", "WheelLand"), ("WheelLand", 180, "WheelLand$Village", "cotton", "I", "WheelLand"), ("WheelLand", 468, "WheelLand$Village", "stamped", "I", "WheelLand"), ("WheelLand", 471, "WheelLand$Village", "plain", "I", "WheelLand"), ("WheelLand", 277, "WheelLand$Village", "mill", "I", "WheelLand"), ("WheelLand", 274, "WheelLand$Village", "hand", "I", "WheelLand"), ("WheelLand", 224, "WheelLand$Village", "price", "I", "WheelLand"), ("WheelLand", 280, "WheelLand$Village", "word", "I", "WheelLand"), ("WheelLand", 305, "WheelLand$Village", "wordNext", "I", "WheelLand"), ("WheelLand", 501, "WheelLand$Village", "takings", "I", "WheelLand"), ("WheelLand", 477, "WheelLand$Village", "sold", "I", "WheelLand"), ("WheelLand", 474, "WheelLand$Village", "stampedEver", "I", "WheelLand"), ("WheelLand", 480, "WheelLand$Village", "stampedSold", "I", "WheelLand"), ("WheelLand", 504, "WheelLand$Village", "millNow", "I", "WheelLand"), ("WheelLand", 325, "WheelLand$House", "number", "I", "WheelLand"), ("WheelLand", 377, "WheelLand$House", "caste", "I", "WheelLand"), ("WheelLand", 374, "WheelLand$House", "heads", "I", "WheelLand"), ("WheelLand$Hands", 74, "WheelLand$House", "village", "LWheelLand$Village;", "WheelLand"), ("WheelLand", 240, "WheelLand$House", "village", "LWheelLand$Village;", "WheelLand"), ("WheelLand", 202, "WheelLand$House", "wheels", "I", "WheelLand"), ("WheelLand", 237, "WheelLand$House", "skill", "I", "WheelLand"), ("WheelLand", 177, "WheelLand$House", "purse", "I", "WheelLand"), ("WheelLand$Lot", 16, "WheelLand$House", "aim", "I", "WheelLand"), ("WheelLand", 173, "WheelLand$House", "aim", "I", "WheelLand"), ("WheelLand", 287, "WheelLand$House", "bare", "I", "WheelLand"), ("WheelLand", 290, "WheelLand$House", "ofHand", "I", "WheelLand"), ("WheelLand", 299, "WheelLand$House", "ofMill", "I", "WheelLand"), ("WheelLand", 205, "WheelLand$House", "owes", "I", "WheelLand"), ("WheelLand", 390, "WheelLand$House", "paid", "I", "WheelLand"), ("WheelLand", 393, "WheelLand$House", "other", "I", "WheelLand"), ("WheelLand", 234, "WheelLand$House", "can", "I", "WheelLand"), ("WheelLand$Hands", 82, "WheelLand$House", "loom", "LWheelLand$Loom;", "WheelLand"), ("WheelLand", 161, "WheelLand$House", "loom", "LWheelLand$Loom;", "WheelLand"), ("WheelLand", 396, "WheelLand$Loom", "from", "I", "WheelLand"), ("WheelLand", 399, "WheelLand$Loom", "to", "I", "WheelLand"), ("WheelLand$Hands", 86, "WheelLand$Loom", "hanks", "I", "WheelLand"), ("WheelLand", 410, "WheelLand$Loom", "hanks", "I", "WheelLand"), ("WheelLand", 227, "WheelLand$Loom", "woven", "I", "WheelLand"), ("WheelLand", 432, "WheelLand$Lot", "number", "I", "WheelLand"), ("WheelLand", 329, "WheelLand$Lot", "count", "I", "WheelLand"), ("WheelLand", 332, "WheelLand$Lot", "strength", "I", "WheelLand"), ("WheelLand", 335, "WheelLand$Lot", "hanks", "I", "WheelLand"), ("WheelLand", 308, "WheelLand$Lot", "left", "I", "WheelLand"), ("WheelLand$Reader", 91, "WheelLand$Sheet", "clauses", "[LWheelLand$Steps;", "WheelLand"), ("WheelLand", 359, "WheelLand$Sheet", "clauses", "[LWheelLand$Steps;", "WheelLand"), ("WheelLand", 350, "WheelLand$Fault", "place", "I", "WheelLand"), ("WheelLand$Reader", 107, "WheelLand$Steps", "what", "[B", "WheelLand"), ("WheelLand$Reader", 114, "WheelLand$Steps", "with", "[I", "WheelLand"), ("WheelLand", 428, "WheelLand$Cloth", "lot", "LWheelLand$Lot;", "WheelLand"), ("WheelLand", 435, "WheelLand$Cloth", "yards", "I", "WheelLand"), ("WheelLand", 438, "WheelLand$Cloth", "isStamped", "Z", "WheelLand"), ("WheelLand", 442, "WheelLand$Cloth", "store", "LWheelLand$Village;", "WheelLand")]
def zNm : List (String × Nat × MethodName × String) := [("WheelLand", 80, ⟨"WheelLand$Reader", "<init>", "()V"⟩, "WheelLand"), ("WheelLand", 87, ⟨"WheelLand$Hands", "<init>", "(LWheelLand;)V"⟩, "WheelLand"), ("WheelLand$House", 38, ⟨"WheelLand", "seasonOf", "(I)I"⟩, "WheelLand"), ("WheelLand$Steps", 21, ⟨"WheelLand", "near", "(J)I"⟩, "WheelLand"), ("WheelLand$Reader", 88, ⟨"WheelLand$Sheet", "<init>", "()V"⟩, "WheelLand"), ("WheelLand$Hands", 44, ⟨"WheelLand", "findHouse", "(I)LWheelLand$House;"⟩, "WheelLand"), ("WheelLand$Hands", 91, ⟨"WheelLand", "begun", "(II)I"⟩, "WheelLand"), ("WheelLand$Hands", 66, ⟨"WheelLand", "barOf", "(LWheelLand$House;LWheelLand$Lot;I)I"⟩, "WheelLand"), ("WheelLand$Hands", 78, ⟨"WheelLand", "farOf", "(LWheelLand$Village;LWheelLand$Village;)I"⟩, "WheelLand")]
def zAo : List String := [RX4, RX5, RX8, RX12, RX10, RX9, "java/lang/String"]
def zAa : List FieldType := [.int, .array .int, .boolean]
/-- an array class of arrays is there -/
def zAy (t : FieldType) (U : State) : Prop := (Cond.arrayOver (.array t)).before #[] U = true
/-- what the tables give that doesn't ride in the lists -/
def zKU (K : zK) (U : State) : Prop := va_K K.1 zCl [] U ∧ (∀ q ∈ zNf, va_Nw (.fieldLinkNest q.1 q.2.1 q.2.2.1 q.2.2.2.1 q.2.2.2.2.1 q.2.2.2.2.2) U) ∧ (∀ q ∈ zNm, va_Nw (.methodLinkNest q.1 q.2.1 q.2.2.1 q.2.2.2) U) ∧ va_Nw (.castable "WheelLand$Fault" "WheelLand$Fault") U ∧ (∀ C ∈ zAo, va_AO C U) ∧ (∀ t ∈ zAa, zAy t U) ∧ ∀ (k : Nat) (q : String × Nat × String), zStr[k]? = some q → vk_R q.1 q.2.1 q.2.2 (K.2.2.1 k) U
theorem zAy_spec {t : FieldType} {s : State} (h : zAy t s) : ∃ comp c k, s.vm.findClass (FieldType.array t).toString = some comp ∧ (s.vm.classes.findIdx? fun x => match x.kind with | .array component _ => component == comp | _ => false) = some c ∧ s.vm.classes[c]? = some k ∧ k.kind = .array comp (.array t) ∧ s.vm.findClass ("[" ++ (FieldType.array t).toString) = some c := by
  unfold zAy Cond.before at h
  simp only [Cond.holds, Cond.value, beq_iff_eq] at h
  cases hc : s.vm.findClass (FieldType.array t).toString with
  | none => simp [hc] at h
  | some comp =>
    simp only [hc, Option.bind_some, Option.bind_eq_some_iff, Option.map_eq_some_iff] at h
    obtain ⟨c, hi, k, hk, hb⟩ := h
    obtain ⟨hlt, hp, -⟩ := Array.findIdx?_eq_some_iff_getElem.mp hi
    have hkk : s.vm.classes[c] = k := (Array.getElem?_eq_some_iff.mp hk).2
    rw [hkk] at hp
    cases hkind : k.kind with
    | array component ty =>
      rw [hkind] at hb hp
      simp at hb hp
      exact ⟨comp, c, k, rfl, hi, hk, by rw [hkind, hp, hb.1], hb.2⟩
    | _ => rw [hkind] at hb; simp at hb
theorem zAy.moved {t : FieldType} {u U : State} (hvm : u.vm.Alike U.vm) (h : zAy t u) : zAy t U := by
  obtain ⟨comp, c, k, h1, h2, h3, h4, h5⟩ := zAy_spec h
  obtain ⟨k', hk', he⟩ := hvm.2.2 _ _ h3
  have hb : u.vm.bare = U.vm.bare := by first | exact hvm.bare_eq | exact hvm.bare_eq.symm
  have hi : (U.vm.classes.findIdx? fun (x : Class) => match x.kind with | .array component _ => component == comp | _ => false) = some c := by
    have h6 := va_idx_bare u.vm comp
    rw [hb] at h6
    exact (va_idx_bare U.vm comp).symm.trans (h6.trans h2)
  have hkind : k'.kind = .array comp (.array t) := by rw [he]; exact h4
  have f1 : U.vm.findClass (FieldType.array t).toString = some comp := by rw [hvm.findClass]; exact h1
  have f2 : U.vm.findClass ("[" ++ (FieldType.array t).toString) = some c := by rw [hvm.findClass]; exact h5
  unfold zAy Cond.before Cond.holds
  simp only [Cond.value]
  rw [f1, Option.bind_some]
  refine (congrArg (fun o : Option Nat => (o.bind (fun c => (U.vm.classes[c]?).map fun (k : Class) => match k.kind with | .array _ ty => decide (ty = FieldType.array t) && decide (U.vm.findClass ("[" ++ (FieldType.array t).toString) = some c) | _ => false) == some true)) hi).trans ?_
  simp [hk', hkind, f2]
theorem zKU.warm {K : zK} {s U : State} (hW : s.WarmedH U.vm) (h : zKU K s) : zKU K U :=
  ⟨va_K.moved hW.alike h.1, fun q hq => va_Nw.warmF hW (h.2.1 q hq), fun q hq => va_Nw.warmM hW (h.2.2.1 q hq), va_Nw.warmC hW h.2.2.2.1, fun C hC => (h.2.2.2.2.1 C hC).moved hW.alike, fun t ht => (h.2.2.2.2.2.1 t ht).moved hW.alike, fun k q hk => (h.2.2.2.2.2.2 k q hk).warm hW⟩
theorem zKU.same {K : zK} {s U : State} (hv : s.vm = U.vm) (h : zKU K s) : zKU K U :=
  ⟨va_K.moved (by rw [hv]; exact Vm.Alike.refl _) h.1, fun q hq => va_Nw.same rfl hv (h.2.1 q hq), fun q hq => va_Nw.same rfl hv (h.2.2.1 q hq), va_Nw.same rfl hv h.2.2.2.1, fun C hC => (h.2.2.2.2.1 C hC).moved (by rw [hv]; exact Vm.Alike.refl _), fun t ht => (h.2.2.2.2.2.1 t ht).moved (by rw [hv]; exact Vm.Alike.refl _), fun k q hk => (h.2.2.2.2.2.2 k q hk).same hv.symm⟩
/-! ===== locals; what a frame holds ===== -/
def aGet : List (Nat × Value) → Nat → Option Value
  | [], _ => none
  | (j, w) :: t, i => if j = i then some w else aGet t i
def aSet (i : Nat) (v : Value) : List (Nat × Value) → List (Nat × Value)
  | [] => [(i, v)]
  | (j, w) :: t => if j = i then (i, v) :: t else (j, w) :: aSet i v t
def aSub : List (Nat × Value) → List (Nat × Value) → Prop
  | [], _ => True
  | (i, v) :: t, A => aGet A i = some v ∧ aSub t A
theorem aGet_mem : ∀ {A : List (Nat × Value)} {i : Nat} {v : Value}, aGet A i = some v → (i, v) ∈ A
  | [], _, _, h => by cases h
  | (j, w) :: t, i, v, h => by
    unfold aGet at h
    split at h
    · rename_i e
      cases h
      subst e
      exact List.mem_cons_self
    · exact List.mem_cons_of_mem _ (aGet_mem h)
theorem aSub_mem : ∀ {A A' : List (Nat × Value)}, aSub A' A → ∀ q ∈ A', q ∈ A
  | _, [], _, q, h => by cases h
  | A, (i, v) :: t, h, q, hq => by
    rcases List.mem_cons.mp hq with rfl | hq
    · exact aGet_mem h.1
    · exact aSub_mem h.2 q hq
theorem aSet_mem : ∀ {A : List (Nat × Value)} {i : Nat} {v : Value} {q : Nat × Value}, q ∈ aSet i v A → q = (i, v) ∨ q ∈ A
  | [], i, v, q, h => by
    unfold aSet at h
    exact Or.inl (List.mem_singleton.mp h)
  | (j, w) :: t, i, v, q, h => by
    unfold aSet at h
    split at h
    · rcases List.mem_cons.mp h with e | e
      · exact Or.inl e
      · exact Or.inr (List.mem_cons_of_mem _ e)
    · rcases List.mem_cons.mp h with e | e
      · exact Or.inr (e ▸ List.mem_cons_self)
      · rcases aSet_mem e with e | e
        · exact Or.inl e
        · exact Or.inr (List.mem_cons_of_mem _ e)
/-- the list names each local once -/
def aUq : List (Nat × Value) → Bool
  | [] => true
  | (j, _) :: t => t.all (fun q => !(q.1 == j)) && aUq t
theorem aSet_ne : ∀ {A : List (Nat × Value)} {i : Nat} {v : Value} {q : Nat × Value}, aUq A = true → q ∈ aSet i v A → q = (i, v) ∨ (q ∈ A ∧ q.1 ≠ i)
  | [], i, v, q, _, h => by
    unfold aSet at h
    exact Or.inl (List.mem_singleton.mp h)
  | (j, w) :: t, i, v, q, hu, h => by
    unfold aUq at hu
    rw [Bool.and_eq_true, List.all_eq_true] at hu
    unfold aSet at h
    split at h
    · rename_i e
      rcases List.mem_cons.mp h with g | g
      · exact Or.inl g
      · refine Or.inr ⟨List.mem_cons_of_mem _ g, ?_⟩
        have := hu.1 q g
        rw [← e]
        simpa using this
    · rename_i e
      rcases List.mem_cons.mp h with g | g
      · exact Or.inr ⟨g ▸ List.mem_cons_self, by rw [g]; exact e⟩
      · rcases aSet_ne hu.2 g with g | g
        · exact Or.inl g
        · exact Or.inr ⟨List.mem_cons_of_mem _ g.1, g.2⟩
/-- a reference or null -/
def isA (v : Value) : Prop := ∃ r : Option Nat, v = va_rf r
theorem isA_rf {r : Option Nat} : isA (va_rf r) := ⟨r, rfl⟩
theorem isA_ref {n : Nat} : isA (.ref n) := ⟨some n, rfl⟩
theorem isA_null : isA .null := ⟨none, rfl⟩
/-- what it refers to is made -/
def okV (u : zM) (v : Value) : Prop := ∀ n, v = .ref n → al u n
theorem okV_int {u : zM} {x : Int32} : okV u (.int x) := fun n h => by cases h
theorem okV_long {u : zM} {x : Int64} : okV u (.long x) := fun n h => by cases h
theorem okV_null {u : zM} : okV u .null := fun n h => by cases h
theorem okV_ref {u : zM} {n : Nat} : okV u (.ref n) ↔ al u n := ⟨fun h => h n rfl, fun h n' e => by cases e; exact h⟩
theorem okV_rf {u : zM} {r : Option Nat} : okV u (va_rf r) ↔ ∀ n, r = some n → al u n := by
  cases r with
  | none => exact ⟨fun _ n h => (by cases h), fun _ => okV_null⟩
  | some a => exact ⟨fun h n e => by cases e; exact h a rfl, fun h n e => by cases e; exact h a rfl⟩
theorem okV.ex {u u' : zM} {v : Value} (h : okV u v) (e : zEx u u') : okV u' v := fun n q => (e.2.2 n (h n q)).1
def okS (u : zM) (st : List Value) : Prop := ∀ v ∈ st, okV u v
def okL (u : zM) (A : List (Nat × Value)) : Prop := (∀ q ∈ A, okV u q.2 ∧ q.2.category = 1) ∧ aUq A = true
theorem okS_nil {u : zM} : okS u [] := fun v h => by cases h
theorem okS_cons {u : zM} {v : Value} {st : List Value} : okS u (v :: st) ↔ okV u v ∧ okS u st := by
  unfold okS
  exact List.forall_mem_cons
theorem okS.ex {u u' : zM} {st : List Value} (h : okS u st) (e : zEx u u') : okS u' st := fun v q => (h v q).ex e
theorem okL.ex {u u' : zM} {A : List (Nat × Value)} (h : okL u A) (e : zEx u u') : okL u' A := ⟨fun q z => ⟨(h.1 q z).1.ex e, (h.1 q z).2⟩, h.2⟩
theorem cv_ex {K : zK} {u u' : zM} {v : Value} (h : okV u v) (e : zEx u u') : cv K u' v = cv K u v := by
  cases v <;> try rfl
  rename_i n
  show Value.ref _ = Value.ref _
  rw [ad_ex e (h n rfl)]
theorem cvS_ex {K : zK} {u u' : zM} {st : List Value} (h : okS u st) (e : zEx u u') : st.map (cv K u') = st.map (cv K u) := List.map_congr_left fun v hv => cv_ex (h v hv) e
theorem cat_cv {K : zK} {u : zM} (v : Value) : (cv K u v).category = v.category := by cases v <;> rfl
theorem cat_rf (r : Option Nat) : (va_rf r).category = 1 := by cases r <;> rfl
/-- the locals: A the ints and references, B the longs -/
def lzHas (K : zK) (u : zM) (ls : Array Slot) (nL : Nat) (A : List (Nat × Value)) (B : List (Nat × Int64)) : Prop :=
  lv_has ls nL (A.map (fun q => (q.1, cv K u q.2)) ++ B.map (fun q => (q.1, Value.long q.2)))
theorem lzHas.ex {K : zK} {u u' : zM} {ls : Array Slot} {nL : Nat} {A : List (Nat × Value)} {B : List (Nat × Int64)} (h : lzHas K u ls nL A B) (hA : okL u A) (e : zEx u u') : lzHas K u' ls nL A B := by
  unfold lzHas
  rw [List.map_congr_left fun q hq => show (q.1, cv K u' q.2) = (q.1, cv K u q.2) by rw [cv_ex (hA.1 q hq).1 e]]
  exact h
theorem lzHas.at {K : zK} {u : zM} {ls : Array Slot} {nL : Nat} {A : List (Nat × Value)} {B : List (Nat × Int64)} (h : lzHas K u ls nL A B) {i : Nat} {v : Value} (hv : aGet A i = some v) : ls[i]? = some (.val (cv K u v)) :=
  h.2.2 (i, cv K u v) (List.mem_append_left _ (List.mem_map.mpr ⟨(i, v), aGet_mem hv, rfl⟩))
theorem lzHas.atL {K : zK} {u : zM} {ls : Array Slot} {nL : Nat} {A : List (Nat × Value)} {B : List (Nat × Int64)} (h : lzHas K u ls nL A B) (k : Nat) {i : Nat} {x : Int64} (hv : B[k]? = some (i, x)) : ls[i]? = some (.val (.long x)) :=
  h.2.2 (i, .long x) (List.mem_append_right _ (List.mem_map.mpr ⟨(i, x), List.mem_of_getElem? hv, rfl⟩))
theorem lzHas.sub {K : zK} {u : zM} {ls : Array Slot} {nL : Nat} {A A' : List (Nat × Value)} {B B' : List (Nat × Int64)} (h : lzHas K u ls nL A B) (hA : ∀ q ∈ A', q ∈ A) (hB : ∀ q ∈ B', q ∈ B) : lzHas K u ls nL A' B' := by
  refine ⟨h.1, h.2.1, fun q hq => h.2.2 q ?_⟩
  rcases List.mem_append.mp hq with g | g
  · obtain ⟨z, hz, e⟩ := List.mem_map.mp g
    exact List.mem_append_left _ (List.mem_map.mpr ⟨z, hA z hz, e⟩)
  · obtain ⟨z, hz, e⟩ := List.mem_map.mp g
    exact List.mem_append_right _ (List.mem_map.mpr ⟨z, hB z hz, e⟩)
/-! ===== the judgement Go: from pc, with locals A B, stack st, memory u, the outcome o (a result and a memory) is reached ===== -/
/-- what a method's body stands on: its class, code, locals, answer, whether a constructor, rooms, handlers -/
def zCx (own : String) (cc : ByteArray) (nL : Nat) (rt : Option FieldType) (ini : Bool) (fr lo : Nat) (tb : List ExceptionTableEntry) (K : zK) (p : Program) (R : Room) (s : State) (m : MethodId) (args : Array Value) (meth : Method) (c : Code) : Prop :=
  p.tables.exec = Jvm.exec ∧ c.code = cc ∧ meth.sig.returnType = rt ∧ c.maxLocals = nL ∧ s.vm.findClass own = some m.cls ∧ (∀ w ∈ lw_all, w.before args s = true) ∧ meth.locks = false ∧ (ini = true → meth.name = "<init>") ∧ fr ≤ R.frames ∧ lo ≤ R.locals ∧ zKU K s ∧ c.exceptionTable.toList = tb
abbrev zQf (β : Type) : Type := zK → List Frame → Array Value → State → Nat → Nat → β → zM → State → Prop
def Go {β : Type} (own : String) (cc : ByteArray) (nL : Nat) (rt : Option FieldType) (ini : Bool) (fr lo : Nat) (tb : List ExceptionTableEntry) (oB : β → zM → Prop) (Qf : zQf β) (c0 s0 : Nat) (pc : Nat) (A : List (Nat × Value)) (B : List (Nat × Int64)) (st : List Value) (u : zM) (o : Option (β × zM)) : Prop :=
  ∀ (b : β) (u' : zM), o = some (b, u') → zWf u → okL u A → okS u st → (zWf u' ∧ zEx u u' ∧ oB b u') ∧
    ∀ (K : zK) (p : Program) (l : Launch) (e : Env) (R : Room) (s : State) (m : MethodId) (args : Array Value) (below : List Frame) (meth : Method) (c : Code) (H : Heap) (locs : List Loc) (ls : Array Slot),
      zCx own cc nL rt ini fr lo tb K p R s m args meth c → c0 ≤ mC u → s0 ≤ mS u → mC u' - c0 ≤ R.cells → mS u' - s0 ≤ R.slots → Cz K s u H → va_S (zA K) s.heap H locs → lzHas K u ls nL A B →
      W p l e R s m args below meth c H locs (mC u - c0) (mS u - s0) (Qf K below args s (mC u' - c0) (mS u' - s0) b u') (F0 m pc ls (st.map (cv K u)))
/-! words of the shallow functions -/
def lt {α β : Type} (a : α) (f : α → β) : β := f a
def oC {β : Type} (r : Option Nat) (a : β) (f : Nat → β) : β := match r with
  | none => a
  | some n => f n
def oB {γ : Type} (r : Option Nat) (f : Nat → Option γ) : Option γ := match r with
  | none => none
  | some n => f n
/-- an index within -/
def ix {γ : Type} (i : Int32) (n : Nat) (o : Option γ) : Option γ := if i < 0 ∨ n ≤ i.toNatClampNeg then none else o
abbrev xN (i : Int32) : Nat := i.toNatClampNeg
/-- not by 0 -/
def gz {γ : Type} (y : Int32) (o : Option γ) : Option γ := if y = 0 then none else o
/-- 0 or 1 -/
def gb {γ : Type} (y : Int32) (o : Option γ) : Option γ := if y = 0 ∨ y = 1 then o else none
/-- a size -/
def gs {γ : Type} (y : Int32) (o : Option γ) : Option γ := if y < 0 ∨ 65536 < y.toNatClampNeg then none else o
/-- a call -/
def bd {α γ : Type} (F : Option (α × zM)) (k : α → zM → Option γ) : Option γ := match F with
  | none => none
  | some (a, u) => k a u
/-- a call that may throw: thrown on -/
def bt {α β : Type} (F : Option ((α ⊕ Nat) × zM)) (k : α → zM → Option ((β ⊕ Nat) × zM)) : Option ((β ⊕ Nat) × zM) := match F with
  | none => none
  | some (.inl a, u) => k a u
  | some (.inr n, u) => some (.inr n, u)
/-- a call that may throw: caught -/
def bc {α γ : Type} (F : Option ((α ⊕ Nat) × zM)) (k : α → zM → Option γ) (h : Nat → zM → Option γ) : Option γ := match F with
  | none => none
  | some (.inl a, u) => k a u
  | some (.inr n, u) => h n u
