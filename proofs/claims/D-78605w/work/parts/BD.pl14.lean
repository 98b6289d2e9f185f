/-! REACH: the sets that are spread: plain law -/
theorem spE_t (a : Int → Int) (M : Nat) (e : Int) : spE a true M e = rcE a M e := rfl
theorem spL_t (a : Int → Int) (l : List Int) (M : Nat) : l.foldl (spE a true) M = rcP a M l := rfl
/-- every walk of k edges at the most is in the set -/
def rU (a : Int → Int) (u : Int) (k : Nat) (M : Nat) : Prop := ∀ p w, pw a (er 0 (a 112)) u p w → p.length ≤ k → M.testBit w.toNat = true
theorem rcP_U {a : Int → Int} {u : Int} {k M : Nat} (h : rU a u k M) : rU a u (k + 1) (rcP a M (er 0 (a 112))) := by
  intro p w hp hl
  by_cases hpn : p = []
  · exact rcP_bit _ _ (h p w hp (by rw [hpn]; exact Nat.zero_le _))
  · obtain ⟨q, e, h1, h2, h3, h4⟩ := pw_snoc hp hpn
    obtain ⟨l, m, hlm⟩ := List.append_of_mem h2
    rw [h1, List.length_append, List.length_singleton] at hl
    have i1 := rcP_bit (a := a) l M (h q _ h3 (by omega))
    have i5 : rcP a M (er 0 (a 112)) = rcP a (rcE a (rcP a M l) e) m := by
      unfold rcP
      rw [hlm, List.foldl_append]
      rfl
    rw [i5]
    refine rcP_bit m _ ?_
    unfold rcE
    rw [if_pos i1, h4, Nat.testBit_or, Nat.testBit_two_pow_self, Bool.or_true]
theorem spF_U {a : Int → Int} {u : Int} : ∀ (n k M : Nat), rU a u k M → rU a u (k + n) (spF a true n M)
  | 0, _, _, h => h
  | n + 1, k, M, h => by
    have := spF_U n (k + 1) _ (rcP_U h)
    rw [show k + (n + 1) = k + 1 + n by omega]
    exact this
theorem spF_S {a : Int → Int} (hg : gV a) {u : Int} : ∀ (n M : Nat), rS a u M → rS a u (spF a true n M)
  | 0, _, h => h
  | n + 1, M, h => spF_S hg n _ (rcP_S hg (er 0 (a 112)) M (fun _ he => he) h)
