/-! REACH: sets are walks: plain law -/
/-- what is in the set is reached -/
def rS (a : Int → Int) (u : Int) (M : Nat) : Prop := ∀ w, 0 ≤ w → w ≤ 7 → M.testBit w.toNat = true → ∃ p, pw a (er 0 (a 112)) u p w
theorem rcE_S {a : Int → Int} (hg : gV a) {u : Int} {M : Nat} {e : Int} (he : e ∈ er 0 (a 112)) (h : rS a u M) : rS a u (rcE a M e) := by
  have hr := nR_er hg e he
  unfold rcE
  split
  · next q =>
    intro w w0 w7 hb
    rw [Nat.testBit_or, Bool.or_eq_true, Nat.testBit_two_pow, decide_eq_true_eq] at hb
    rcases hb with hb | hb
    · exact h w w0 w7 hb
    · obtain ⟨p, hp⟩ := h _ hr.1.1 hr.1.2 q
      exact ⟨p ++ [e], pw_app hp ⟨he, rfl, (show a (7 * e + 1) = w by omega)⟩⟩
  · exact h
theorem rcP_S {a : Int → Int} (hg : gV a) {u : Int} : ∀ (l : List Int) (M : Nat), (∀ e ∈ l, e ∈ er 0 (a 112)) → rS a u M → rS a u (rcP a M l)
  | [], _, _, h => h
  | e :: l, M, hm, h => rcP_S hg l _ (fun x hx => hm x (List.mem_cons_of_mem _ hx)) (rcE_S hg (hm e List.mem_cons_self) h)
theorem rcF_S {a : Int → Int} (hg : gV a) {u : Int} : ∀ (k M : Nat), rS a u M → rS a u (rcF a k M)
  | 0, _, h => h
  | k + 1, M, h => by
    rw [rcF]
    split
    · exact h
    · exact rcF_S hg k _ (rcP_S hg _ _ (fun _ he => he) h)
theorem rS_0 {a : Int → Int} {u : Int} (hu : 0 ≤ u ∧ u ≤ 7) : rS a u (2 ^ u.toNat) := fun w w0 w7 hb => by
  rw [Nat.testBit_two_pow, decide_eq_true_eq] at hb
  obtain rfl : u = w := by omega
  exact ⟨[], rfl⟩
