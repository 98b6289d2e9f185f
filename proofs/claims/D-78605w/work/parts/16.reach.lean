/-! REACHED nodes, as bits: plain law -/
def rcE (a : Int → Int) (M : Nat) (e : Int) : Nat := if M.testBit (a (7 * e)).toNat = true then M ||| 2 ^ (a (7 * e + 1)).toNat else M
def rcP (a : Int → Int) (M : Nat) (es : List Int) : Nat := es.foldl (rcE a) M
/-- passes until nothing is new -/
def rcF (a : Int → Int) : Nat → Nat → Nat
  | 0, M => M
  | k + 1, M => if rcP a M (er 0 (a 112)) = M then M else rcF a k (rcP a M (er 0 (a 112)))
theorem rcE_le (a : Int → Int) (M : Nat) (e : Int) : M ≤ rcE a M e := by
  unfold rcE
  split
  · exact Nat.left_le_or
  · exact Nat.le_refl _
theorem rcP_le (a : Int → Int) : ∀ (es : List Int) (M : Nat), M ≤ rcP a M es
  | [], _ => Nat.le_refl _
  | e :: es, M => Nat.le_trans (rcE_le a M e) (rcP_le a es _)
theorem rcE_lt {a : Int → Int} {M : Nat} {e : Int} (h : 0 ≤ a (7 * e + 1) ∧ a (7 * e + 1) ≤ 7) (hM : M < 256) : rcE a M e < 256 := by
  unfold rcE
  split
  · refine Nat.or_lt_two_pow (n := 8) hM ?_
    exact Nat.pow_lt_pow_right (by omega) (by omega)
  · exact hM
theorem rcP_lt {a : Int → Int} : ∀ (es : List Int) (M : Nat), (∀ e ∈ es, 0 ≤ a (7 * e + 1) ∧ a (7 * e + 1) ≤ 7) → M < 256 → rcP a M es < 256
  | [], _, _, hM => hM
  | e :: es, M, h, hM => rcP_lt es _ (fun x hx => h x (List.mem_cons_of_mem _ hx)) (rcE_lt (h e List.mem_cons_self) hM)
/-- the nodes that u leads to -/
def rcA (a : Int → Int) (u : Int) : Nat := rcF a 256 (2 ^ u.toNat)
def ldB (a : Int → Int) (u v : Int) : Bool := (rcA a u).testBit v.toNat
theorem rcF_lt {a : Int → Int} (h : ∀ e, 0 ≤ e → e < a 112 → 0 ≤ a (7 * e + 1) ∧ a (7 * e + 1) ≤ 7) : ∀ (k M : Nat), M < 256 → rcF a k M < 256
  | 0, _, hM => hM
  | k + 1, M, hM => by
    rw [rcF]
    split
    · exact hM
    · exact rcF_lt h k _ (rcP_lt _ _ (fun e he => h e (er_mem.mp he).1 (er_mem.mp he).2) hM)
theorem rcA_lt {a : Int → Int} (h : ∀ e, 0 ≤ e → e < a 112 → 0 ≤ a (7 * e + 1) ∧ a (7 * e + 1) ≤ 7) {u : Int} (hu : 0 ≤ u ∧ u ≤ 7) : rcA a u < 256 := by
  refine rcF_lt h _ _ ?_
  have h8 : 2 ^ u.toNat < 2 ^ 8 := Nat.pow_lt_pow_right (by omega) (by omega)
  exact h8
