/-! X SIDE 19: what the walks gather -/
set_option maxRecDepth 100000
theorem rowIs_pre {w : Int → Int} {p q : List Int} (h : rowIs w (p ++ q)) : rowIs w p := fun i e hi => h i e (by rw [List.getElem?_append_left (List.getElem?_eq_some_iff.mp hi).1]; exact hi)
theorem zKx.no2 {w sq a : Nat} {μ0 μ : zM} {e1 e2 : va_E} (k : zKx [w, sq] μ0 μ) (hw : μ w = some e1) (hsq : μ sq = some e2) (h : μ a = none) : μ0 a = none := by
  cases hx : μ0 a with
  | none => rfl
  | some e =>
    have := k a e hx (by
      simp only [List.mem_cons, List.not_mem_nil, or_false, not_or]
      exact ⟨(fun q => by rw [q, hw] at h; cases h), (fun q => by rw [q, hsq] at h; cases h)⟩)
    rw [h] at this
    cases this
/-- a finding of the fraction at va -/
def FD9 (E : zE) (μ0 μ : zM) (va sq : Nat) (ac : Option Nat) : Option (List Int) → Prop
  | none => ac = none
  | some b => ∃ f ar g, ac = some f ∧ μ f = some (zob 8 [.ref ar, .ref va]) ∧ μ ar = some (zai E b.length g) ∧ rowIs g b ∧ b.length ≤ 8 ∧ (∀ e ∈ b, 0 ≤ e ∧ e < 16) ∧ ar ≠ sq ∧ μ0 ar = none
/-- a finding of its own fraction, in lowest terms -/
def FDr (E : zE) (μ0 μ : zM) (sq : Nat) (ac : Option Nat) : bT → Prop
  | none => ac = none
  | some b => ∃ f ar fr g, ac = some f ∧ μ f = some (zob 8 [.ref ar, .ref fr]) ∧ μ ar = some (zai E b.2.2.length g) ∧ rowIs g b.2.2 ∧ μ fr = some (zfr (frN b.1 b.2.1) (frD b.1 b.2.1)) ∧ b.2.2.length ≤ 8 ∧ (∀ e ∈ b.2.2, 0 ≤ e ∧ e < 16) ∧ (1 ≤ b.1 ∧ b.1 ≤ 656100000000) ∧ (1 ≤ b.2.1 ∧ b.2.1 ≤ 656100000000) ∧ ar ≠ sq ∧ μ0 ar = none
/-- a fraction in lowest terms -/
def FO (μ : zM) (ac : Option Nat) : Option (Int × Int) → Prop
  | none => ac = none
  | some b => ∃ fr, ac = some fr ∧ μ fr = some (zfr (frN b.1 b.2) (frD b.1 b.2)) ∧ (-792 ≤ b.1 ∧ b.1 ≤ 792) ∧ (1 ≤ b.2 ∧ b.2 ≤ 72)
/-- the three counts -/
def FC (E : zE) (μ : zM) (cn sq : Nat) (α : Int × Int × Int) : Prop := ∃ f, μ cn = some (zai E 3 f) ∧ f 0 = α.1 ∧ f 1 = α.2.1 ∧ f 2 = α.2.2 ∧ cn ≠ sq
def FN (μ : zM) (ac : Option Nat × Option Nat × Bool) (α : nT) : Prop := FO μ ac.1 α.1 ∧ FO μ ac.2.1 α.2.1 ∧ ac.2.2 = α.2.2
theorem FD9.mono {E : zE} {μ0 μ μ' : zM} {va sq : Nat} {ac : Option Nat} {α : Option (List Int)} (h : FD9 E μ0 μ va sq ac α) (k1 : ∀ q e, μ q = some e → kd e = 8 ∨ kd e = 5 → μ' q = some e) (k2 : ∀ q e, μ q = some e → kd e = 100 → q ≠ sq → μ' q = some e) : FD9 E μ0 μ' va sq ac α := by
  cases α with
  | none => exact h
  | some b =>
    obtain ⟨f, ar, g, h1, h2, h3, h4, h5, h6, h7⟩ := h
    exact ⟨f, ar, g, h1, k1 _ _ h2 (Or.inl rfl), k2 _ _ h3 rfl h7.1, h4, h5, h6, h7⟩
theorem FDr.mono {E : zE} {μ0 μ μ' : zM} {sq : Nat} {ac : Option Nat} {α : bT} (h : FDr E μ0 μ sq ac α) (k1 : ∀ q e, μ q = some e → kd e = 8 ∨ kd e = 5 → μ' q = some e) (k2 : ∀ q e, μ q = some e → kd e = 100 → q ≠ sq → μ' q = some e) : FDr E μ0 μ' sq ac α := by
  cases α with
  | none => exact h
  | some b =>
    obtain ⟨f, ar, fr, g, h1, h2, h3, h4, h5, h6, h7, h8, h9, h10⟩ := h
    exact ⟨f, ar, fr, g, h1, k1 _ _ h2 (Or.inl rfl), k2 _ _ h3 rfl h10.1, h4, k1 _ _ h5 (Or.inr rfl), h6, h7, h8, h9, h10⟩
theorem FO.mono {μ μ' : zM} {ac : Option Nat} {α : Option (Int × Int)} (h : FO μ ac α) (k1 : ∀ q e, μ q = some e → kd e = 8 ∨ kd e = 5 → μ' q = some e) : FO μ' ac α := by
  cases α with
  | none => exact h
  | some b =>
    obtain ⟨fr, h1, h2, h3⟩ := h
    exact ⟨fr, h1, k1 _ _ h2 (Or.inr rfl), h3⟩
theorem FC.mono {E : zE} {μ μ' : zM} {cn sq : Nat} {α : Int × Int × Int} (h : FC E μ cn sq α) (k2 : ∀ q e, μ q = some e → kd e = 100 → q ≠ sq → μ' q = some e) : FC E μ' cn sq α := by
  obtain ⟨f, h1, h2⟩ := h
  exact ⟨f, k2 _ _ h1 rfl h2.2.2.2, h2⟩
theorem FN.mono {μ μ' : zM} {ac : Option Nat × Option Nat × Bool} {α : nT} (h : FN μ ac α) (k1 : ∀ q e, μ q = some e → kd e = 8 ∨ kd e = 5 → μ' q = some e) : FN μ' ac α := ⟨h.1.mono k1, h.2.1.mono k1, h.2.2⟩
/-- steps of the gatherings -/
def stp9 (α : Option (List Int)) (p : List Int) : Option (List Int) := match α with
  | none => some p
  | some b => if blt p b = true then some p else some b
def stp11 (a : Int → Int) (α : Option (Int × Int)) (p : List Int) : Option (Int × Int) := match α with
  | none => some (esum a 2 p, esum a 4 p)
  | some b => if gsg (esum a 2 p * b.2 - b.1 * esum a 4 p) < 0 then some (esum a 2 p, esum a 4 p) else some b
def stp13 (a : Int → Int) (α : Int × Int × Int) (p : List Int) : Int × Int × Int := (α.1 + 1, α.2.1 + zb (decide (esum a 2 p < 0)), α.2.2 + zb (decide (eprod a 6 p < eprod a 5 p)))
/-- a fraction with a negative denominator -/
theorem fr_neg {n d : Int} (hd : d < 0) : frN n d = frN (-n) (-d) ∧ frD n d = frD (-n) (-d) := by
  have hg : frG n d = - frG (-n) (-d) := by
    unfold frG
    rw [if_pos hd, if_neg (by omega), Int.gcd_neg, Int.neg_gcd]
  obtain ⟨h1, h2⟩ := frG_dvd n d
  unfold frN frD
  rw [hg, Int.ediv_neg, Int.ediv_neg]
  rw [hg] at h1 h2
  have h1' := Int.neg_dvd.mp h1
  have h2' := Int.neg_dvd.mp h2
  exact ⟨(Int.neg_ediv_of_dvd h1').symm, (Int.neg_ediv_of_dvd h2').symm⟩
theorem lit {es : List Int} {p : List Int} {a : Int → Int} (h : ∀ e ∈ p, 0 ≤ e ∧ e < a 112) (h16 : a 112 ≤ 16) : ∀ e ∈ p, 0 ≤ e ∧ e < 16 := fun e he => by
  have := h e he
  omega
