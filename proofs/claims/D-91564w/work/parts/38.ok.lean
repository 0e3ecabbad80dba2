set_option maxRecDepth 100000
/-! ===== what the state alone obeys; what both sides hold; from two runs to an agreement ===== -/
/-- the kinds of the values on the heap: true for those that are 0 or 1 -/
def tyStep (op v : Int32) (T : List Bool) : Option (List Bool) :=
  if op = 110 then some (false :: T)
  else if op = 118 then (if inR 0 12 v then some (false :: T) else none)
  else if op = 33 then (match T with | true :: R => some (true :: R) | _ => none)
  else if op = 38 ∨ op = 124 then (match T with | true :: true :: R => some (true :: R) | _ => none)
  else if op = 60 ∨ op = 62 ∨ op = 61 then (match T with | false :: false :: R => some (true :: R) | _ => none)
  else if op = 43 ∨ op = 45 ∨ op = 42 ∨ op = 47 then (match T with | false :: false :: R => some (false :: R) | _ => none)
  else none
def tyRun (c : Nat → Int32) : Nat → Option (List Bool)
  | 0 => some []
  | k + 1 => (tyRun c k).bind (tyStep (c (2 * k)) (c (2 * k + 1)))
def codeOk (s : zS) (t c : Nat) : Prop := inR 0 400 (s (nm 1805 t) c) ∧ (¬ s (nm 1805 t) c = 0 → tyRun (s (nm 1773 (5 * t + c))) (cnt (s (nm 1805 t) c)) = some [decide (3 ≤ c)])
def OkC (s : zS) : Prop := inR 0 156 (s 3 0) ∧ inR 0 8 (s 3 1) ∧ inR 0 20 (s 3 2) ∧ inR 0 300 (s 3 64) ∧ inR 0 200 (s 3 78) ∧ inR 0 8 (s 3 52) ∧ inR 0 12 (s 3 53) ∧ inR 0 400 (s 3 41) ∧ inR 0 6 (s 3 86) ∧ inR 0 8 (s 3 96)
def OkV (s : zS) : Prop := ∀ v, v < cnt (s 3 1) → inR 0 9999 (s 781 v) ∧ ∀ k, k < 4 → inR 0 40 (s (nm 653 v) k)
def OkH (s : zS) : Prop := ∀ h, h < cnt (s 3 2) → isN (s 3 1) (s 1197 h) ∧ inR 0 5 (s 1229 h) ∧ inR 0 9 (s 1261 h) ∧ inR 1 9 (s 1325 h) ∧ inR 4 60 (s 1389 h) ∧ inR 0 40 (s 1581 h)
def OkL (s : zS) : Prop := ∀ l, l < cnt (s 3 64) → isN (s 3 2) (s 1965 l) ∧ inR 0 200 (s 2125 l)
def OkK (s : zS) : Prop := ∀ c, c < cnt (s 3 78) → isN (s 3 64) (s 2285 c) ∧ isN (s 3 2) (s 2317 c) ∧ (s 2413 c = -1 ∨ isN (s 3 1) (s 2413 c)) ∧ (s 15 c = 0 ∨ s 15 c = 1)
def OkF (s : zS) : Prop := ∀ k, k < cnt (s 3 53) → isN (s 3 52) (s 1837 k) ∧ inR 0 155 (s 1869 k)
def OkG (s : zS) : Prop := ∀ k, k < cnt (s 3 96) → isN (s 3 2) (s 2733 k) ∧ inR 0 2 (s 2765 k)
def OkA (s : zS) : Prop := ∀ k, k < cnt (s 3 86) → isN (s 3 64) (s 2445 k)
def OkD (s : zS) : Prop := ∀ a b, a < 8 → b < 8 → inR 0 9 (s (nm 685 a) b) ∧ (¬ s (nm 685 a) b = 0 → a < cnt (s 3 1) ∧ b < cnt (s 3 1))
def zV : List Nat := [813, 845, 877, 973, 1005, 1037, 1069, 1101, 1133, 1165]
def zH : List Nat := [1357, 1421, 1453, 1485, 1517, 1549, 1581, 1613, 16, 1645, 1677, 1709]
def OkZ (s : zS) : Prop := (∀ a ∈ zV, ∀ k, cnt (s 3 1) ≤ k → s a k = 0) ∧ ∀ a ∈ zH, ∀ k, cnt (s 3 2) ≤ k → s a k = 0
def OkT (s : zS) : Prop := ∀ t c, t < cnt (s 3 52) → c < 5 → codeOk s t c
def OkS (s : zS) : Prop := OkC s ∧ OkV s ∧ OkH s ∧ OkL s ∧ OkK s ∧ OkF s ∧ OkG s ∧ OkA s ∧ OkD s ∧ OkZ s ∧ OkT s
def Good (u : zM) : Prop := ∃ s, RepX s u ∧ RepM s u ∧ OkS s
theorem good0 (L : Nat) (xs : Nat → Int32) (u : zM) (h : Lay0 L xs u) : Good u := by
  obtain ⟨h1, h2, h3, h4, h5, h6, h7⟩ := h
  have hI : ∀ st i j, st < 8192 → st ≠ 28 → st ≠ 30 → mI u (nm st i) j = 0 := fun st i j a b c => h4 _ _ (by rw [nS_nm a]; exact b) (by rw [nS_nm a]; exact c)
  have hK : ∀ st, layK.contains st = true → mK u st = 0 := fun st e => h2 st (by simpa using e)
  have hc : cnt 0 = 0 := rfl
  refine ⟨fun _ _ => 0, ⟨h1, fun st i j a k e => ?_, ?_⟩, ⟨h1, fun a k hp => ?_, fun k => by rw [h5]; rfl⟩, ?_⟩
  · obtain ⟨_, e1, e2⟩ := xi_inv e
    refine hI st i j e1 (fun z => ?_) (fun z => ?_)
    · rw [z] at e2
      revert e2
      decide
    · rw [z] at e2
      revert e2
      decide
  · refine ⟨⟨⟨?_, ?_, ?_⟩, fun v _ => h3 17 (by decide) v, fun v hv => ?_⟩, ⟨?_, fun v hv => ?_, fun a b n hv => ?_⟩, ⟨?_, fun v hv => ?_⟩, ⟨?_, fun v hv => ?_⟩, fun v hv => ?_, fun v hv => ?_, fun a b hv => ?_⟩
    all_goals (try (rw [hc] at hv; exact absurd hv (Nat.not_lt_zero _)))
    all_goals (rw [hc]; exact hK _ (by decide))
  · unfold pm at hp
    simp only [Bool.or_eq_true, Bool.and_eq_true] at hp
    refine h4 a k (fun z => ?_) (fun z => ?_)
    · rcases hp with hp | hp
      · rw [show a = 3 by simpa using hp.1] at z
        revert z
        decide
      · rw [z] at hp
        revert hp
        simp [pmA]
    · rcases hp with hp | hp
      · rw [show a = 3 by simpa using hp.1] at z
        revert z
        decide
      · rw [z] at hp
        revert hp
        simp [pmA]
  · have hz : ∀ {lo hi : Int}, lo ≤ 0 → 0 ≤ hi → inR lo hi (0 : Int32) := fun a b => inR_iff.mpr ⟨a, b⟩
    refine ⟨?_, fun v hv => ?_, fun v hv => ?_, fun v hv => ?_, fun v hv => ?_, fun v hv => ?_, fun v hv => ?_, fun v hv => ?_, fun a b _ _ => ⟨hz (by decide) (by decide), fun z => absurd rfl z⟩, ⟨fun _ _ _ _ => rfl, fun _ _ _ _ => rfl⟩, fun v c hv => ?_⟩
    all_goals (try (rw [hc] at hv; exact absurd hv (Nat.not_lt_zero _)))
    exact ⟨hz (by decide) (by decide), hz (by decide) (by decide), hz (by decide) (by decide), hz (by decide) (by decide), hz (by decide) (by decide), hz (by decide) (by decide), hz (by decide) (by decide), hz (by decide) (by decide), hz (by decide) (by decide), hz (by decide) (by decide)⟩
/-- the component's run from the state s -/
abbrev XP {β : Type} (p : β × zS) (c d : Nat) (u0 : zM) : β → zM → Prop := fun b u' => ∃ s', p = (b, s') ∧ RepX s' u' ∧ Sm xMine c d u0 u'
abbrev MP {β : Type} (p : β × zS) (c d : Nat) (u0 : zM) : β → zM → Prop := fun b u' => ∃ s', p = (b, s') ∧ RepM s' u' ∧ Sm mMine c d u0 u'
def CR {β : Type} (F : zM → Option (β × zM)) (s : zS) (p : β × zS) (c d : Nat) : Prop := ∀ u, RepX s u → Ini (F u) (XP p c d u)
def MR {β : Type} (F : zM → Option (β × zM)) (s : zS) (p : β × zS) (c d : Nat) : Prop := ∀ u, RepM s u → Ini (F u) (MP p c d u)
theorem Sm.keep {f : Nat → Bool} {u v : zM} (h : Sm f 600 5000 u v) (hf : f 30 = false) : Keep u v := ⟨(h.1 (nm 30 0) hf).2, fun j => ((h.1 (nm 30 0) hf).1 j).1, h.2.2.1, h.2.2.2⟩
theorem agr_of {f g : zM → Option (Int32 × zM)} {sp : zS → Int32 × zS} (hC : ∀ s, OkS s → CR f s (sp s) 600 5000) (hM : ∀ s, OkS s → MR g s (sp s) 600 5000) (hO : ∀ s, OkS s → OkS (sp s).2) : Agr Good f g := by
  intro u ⟨s, hX, hR, hk⟩
  obtain ⟨b, u1, e1, s1, p1, x1, m1⟩ := hC s hk u hX
  have hR1 : RepM s u1 := m1.RM hR x1.1
  obtain ⟨b', u2, e2, s2, p2, x2, m2⟩ := hM s hk u1 hR1
  rw [p1] at p2
  cases p2
  refine ⟨b, u1, u2, e1, e2, ⟨s1, m2.RX x1 x2.1, x2, ?_⟩, m1.keep (by decide), m2.keep (by decide)⟩
  have := hO s hk
  rw [p1] at this
  exact this
