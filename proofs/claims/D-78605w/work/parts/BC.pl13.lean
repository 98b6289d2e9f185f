/-! REACH: sets are walks: plain law -/
/-- what is in the set is reached -/
def rS (a : Int → Int) (u : Int) (M : Nat) : Prop := ∀ w, 0 ≤ w → w ≤ 7 → M.testBit w.toNat = true → ∃ p, pw a (er 0 (a 112)) u p w
theorem rcE_S {a : Int → Int} (hg : gV a) {u : Int} {M : Nat} {e : Int} (he : e ∈ er 0 (a 112)) (h : rS a u M) : rS a u (rcE a M e) := by
  have hr := nR_er hg e he
  unfold rcE
  split
  · next q =>
    intro w w0 w7 hb
    rw [Nat.testBit_or, Bool.or_eq_true, Nat.testBit_two_pow, decide_eq_true_eq] at hb
    rcases hb with hb | hb
    · exact h w w0 w7 hb
    · obtain ⟨p, hp⟩ := h _ hr.1.1 hr.1.2 q
      exact ⟨p ++ [e], pw_app hp ⟨he, rfl, (show a (7 * e + 1) = w by omega)⟩⟩
  · exact h
theorem rcP_S {a : Int → Int} (hg : gV a) {u : Int} : ∀ (l : List Int) (M : Nat), (∀ e ∈ l, e ∈ er 0 (a 112)) → rS a u M → rS a u (rcP a M l)
  | [], _, _, h => h
  | e :: l, M, hm, h => rcP_S hg l _ (fun x hx => hm x (List.mem_cons_of_mem _ hx)) (rcE_S hg (hm e List.mem_cons_self) h)
theorem rcF_S {a : Int → Int} (hg : gV a) {u : Int} : ∀ (k M : Nat), rS a u M → rS a u (rcF a k M)
  | 0, _, h => h
  | k + 1, M, h => by
    rw [rcF]
    split
    · exact h
    · exact rcF_S hg k _ (rcP_S hg _ _ (fun _ he => he) h)
theorem rS_0 {a : Int → Int} {u : Int} (hu : 0 ≤ u ∧ u ≤ 7) : rS a u (2 ^ u.toNat) := fun w w0 w7 hb => by
  rw [Nat.testBit_two_pow, decide_eq_true_eq] at hb
  obtain rfl : u = w := by omega
  exact ⟨[], rfl⟩
/-- a stable set is closed -/
theorem rcP_st {a : Int → Int} : ∀ (l : List Int) (M : Nat), rcP a M l = M → ∀ e ∈ l, rcE a M e = M
  | [], _, _, e, he => by cases he
  | x :: l, M, h, e, he => by
    have h1 : rcP a (rcE a M x) l = M := h
    have h2 := rcE_le a M x
    have h3 := rcP_le a l (rcE a M x)
    have h4 : rcE a M x = M := by omega
    rw [h4] at h1
    rcases List.mem_cons.mp he with r | r
    · rw [r]; exact h4
    · exact rcP_st l M h1 e r
theorem rcF_st {a : Int → Int} (hr : ∀ e, 0 ≤ e → e < a 112 → 0 ≤ a (7 * e + 1) ∧ a (7 * e + 1) ≤ 7) : ∀ (k M : Nat), M < 256 → 256 ≤ M + k → rcP a (rcF a k M) (er 0 (a 112)) = rcF a k M
  | 0, M, h1, h2 => by omega
  | k + 1, M, h1, h2 => by
    rw [rcF]
    split
    · assumption
    · next q =>
      have h3 := rcP_le a (er 0 (a 112)) M
      exact rcF_st hr k _ (rcP_lt _ _ (fun e he => hr e (er_mem.mp he).1 (er_mem.mp he).2) h1) (by omega)
theorem st_walk {a : Int → Int} {M : Nat} (h : ∀ e ∈ er 0 (a 112), rcE a M e = M) : ∀ {p : List Int} {u v : Int}, pw a (er 0 (a 112)) u p v → M.testBit u.toNat = true → M.testBit v.toNat = true
  | [], u, v, hp, hu => by
    have hp : u = v := hp
    rw [← hp]; exact hu
  | e :: p, u, v, hp, hu => by
    refine st_walk h hp.2.2 ?_
    have h1 := h e hp.1
    unfold rcE at h1
    rw [hp.2.1, if_pos hu] at h1
    rw [← h1, Nat.testBit_or, Nat.testBit_two_pow_self, Bool.or_true]
theorem rcE_bit {a : Int → Int} {M : Nat} {e : Int} {j : Nat} (h : M.testBit j = true) : (rcE a M e).testBit j = true := by
  unfold rcE
  split
  · rw [Nat.testBit_or, h, Bool.true_or]
  · exact h
theorem rcP_bit {a : Int → Int} {j : Nat} : ∀ (l : List Int) (M : Nat), M.testBit j = true → (rcP a M l).testBit j = true
  | [], _, h => h
  | e :: l, M, h => rcP_bit l _ (rcE_bit (e := e) h)
theorem rcF_bit {a : Int → Int} {j : Nat} : ∀ (k M : Nat), M.testBit j = true → (rcF a k M).testBit j = true
  | 0, _, h => h
  | k + 1, M, h => by
    rw [rcF]
    split
    · exact h
    · exact rcF_bit k _ (rcP_bit _ _ h)
/-- one node leads to another one by a walk -/
theorem ldB_iff {a : Int → Int} (hg : gV a) {u v : Int} (hu : 0 ≤ u ∧ u ≤ 7) (hv : 0 ≤ v ∧ v ≤ 7) : ldB a u v = true ↔ ∃ p, pw a (er 0 (a 112)) u p v := by
  have hr : ∀ e, 0 ≤ e → e < a 112 → 0 ≤ a (7 * e + 1) ∧ a (7 * e + 1) ≤ 7 := fun e h0 h1 => (nR_er hg e (er_mem.mpr ⟨h0, h1⟩)).2
  have h8 : 2 ^ u.toNat < 2 ^ 8 := Nat.pow_lt_pow_right (by omega) (by omega)
  constructor
  · intro h
    exact rcF_S hg 256 _ (rS_0 hu) v hv.1 hv.2 h
  · rintro ⟨p, hp⟩
    have hst := rcP_st _ _ (rcF_st hr 256 (2 ^ u.toNat) h8 (Nat.le_add_left _ _))
    exact st_walk hst hp (rcF_bit 256 _ (Nat.testBit_two_pow_self))
