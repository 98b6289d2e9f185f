/-! LEAST cycles: the fold: plain law -/
/-- the best of L is known: the least value, of those the first by length and edges -/
def bI (U D : List Int → Int) (L : List (List Int)) : bT → Prop
  | none => L = []
  | some b => b.1 = U b.2.2 ∧ b.2.1 = D b.2.2 ∧ b.2.2 ∈ L ∧ (∀ q ∈ L, b.1 * D q ≤ U q * b.2.1) ∧ List.foldl stp9 none (L.filter (fun q => decide (U q * b.2.1 = b.1 * D q))) = some b.2.2
theorem better_1 (up dn : Int) (p : List Int) (b : Int × Int × List Int) : bBetter 1 up dn p b = (decide (up * b.2.1 < b.1 * dn) || (decide (up * b.2.1 = b.1 * dn) && blt p b.2.2)) := by
  obtain ⟨h1, h2, _⟩ := gsg_iff (up * b.2.1 - b.1 * dn)
  unfold bBetter blt
  rw [Int.one_mul, show decide (gsg (up * b.2.1 - b.1 * dn) < 0) = decide (up * b.2.1 < b.1 * dn) from decide_eq_decide.mpr (by rw [h1]; omega), show decide (gsg (up * b.2.1 - b.1 * dn) = 0) = decide (up * b.2.1 = b.1 * dn) from decide_eq_decide.mpr (by rw [h2]; omega)]
theorem stp9_step (α : Option (List Int)) (L : List (List Int)) (x : List Int) : List.foldl stp9 α (L ++ [x]) = stp9 (List.foldl stp9 α L) x := by
  rw [List.foldl_append]
  rfl
theorem bI_step {U D : List Int → Int} {L : List (List Int)} {x : List Int} {acc : bT} (hD : ∀ p ∈ L ++ [x], 0 < D p) (h : bI U D L acc) : bI U D (L ++ [x]) (wgh 1 (U x) (D x) x acc) := by
  have hx : 0 < D x := hD x (by simp)
  cases acc with
  | none =>
    have h : L = [] := h
    subst h
    refine ⟨rfl, rfl, by simp, fun q hq => ?_, ?_⟩
    · rw [List.nil_append, List.mem_singleton] at hq
      subst hq
      exact Int.le_refl _
    · simp [stp9]
  | some b =>
    obtain ⟨h1, h2, h3, h4, h5⟩ := h
    have hb : 0 < b.2.1 := by rw [h2]; exact hD _ (List.mem_append_left _ h3)
    show bI U D (L ++ [x]) (if bBetter 1 (U x) (D x) x b = true then some (U x, D x, x) else some b)
    rw [better_1]
    by_cases c1 : U x * b.2.1 < b.1 * D x
    · rw [if_pos (by rw [decide_eq_true c1]; rfl)]
      have hlt : ∀ q ∈ L, U x * D q < U q * D x := fun q hq => cross_lt hb hx (hD q (List.mem_append_left _ hq)) (h4 q hq) c1
      refine ⟨rfl, rfl, by simp, fun q hq => ?_, ?_⟩
      · rcases List.mem_append.mp hq with r | r
        · exact Int.le_of_lt (hlt q r)
        · rw [List.mem_singleton.mp r]; exact Int.le_refl _
      · dsimp only
        rw [List.filter_append, List.filter_eq_nil_iff.mpr (fun q hq => by
          have := hlt q hq
          simp only [decide_eq_true_eq]
          omega), List.nil_append]
        simp [stp9]
    · by_cases c2 : U x * b.2.1 = b.1 * D x
      · have e1 : ∀ q ∈ L, (decide (U q * b.2.1 = b.1 * D q)) = decide (U q * D x = U x * D q) := fun q hq => by
          have hq0 := hD q (List.mem_append_left _ hq)
          apply decide_eq_decide.mpr
          have k1 := cross_le (u := b.1) (d := b.2.1) (ux := U x) (dx := D x) (uq := U q) (dq := D q) hb hx hq0 (h4 q hq) (by omega)
          constructor
          · intro e
            have k2 := cross_le (u := b.1) (d := b.2.1) (ux := U q) (dx := D q) (uq := U x) (dq := D x) hb hq0 hx (by omega) (by omega)
            omega
          · intro e
            have k2 := cross_le (u := U x) (d := D x) (ux := U q) (dx := D q) (uq := b.1) (dq := b.2.1) hx hq0 hb (by omega) (by omega)
            have k3 := h4 q hq
            omega
        have e2 : decide (U x * b.2.1 = b.1 * D x) = true := decide_eq_true c2
        by_cases c3 : blt x b.2.2 = true
        · rw [if_pos (by rw [e2, c3]; simp)]
          refine ⟨rfl, rfl, by simp, fun q hq => ?_, ?_⟩
          · rcases List.mem_append.mp hq with r | r
            · show U x * D q ≤ U q * D x
              exact cross_le (u := b.1) (d := b.2.1) (ux := U x) (dx := D x) (uq := U q) (dq := D q) hb hx (hD q hq) (h4 q r) (by omega)
            · rw [List.mem_singleton.mp r]; exact Int.le_refl _
          · dsimp only
            rw [List.filter_append, ← List.filter_congr e1]
            have : [x].filter (fun q => decide (U q * D x = U x * D q)) = [x] := by simp
            rw [this, stp9_step, h5]
            show (if blt x b.2.2 = true then some x else some b.2.2) = some x
            rw [if_pos c3]
        · rw [if_neg (by rw [decide_eq_false c1, e2, Bool.false_or, Bool.true_and]; exact c3)]
          refine ⟨h1, h2, List.mem_append_left _ h3, fun q hq => ?_, ?_⟩
          · rcases List.mem_append.mp hq with r | r
            · exact h4 q r
            · rw [List.mem_singleton.mp r]; omega
          · rw [List.filter_append]
            have : [x].filter (fun q => decide (U q * b.2.1 = b.1 * D q)) = [x] := by simp [c2]
            rw [this, stp9_step, h5]
            show (if blt x b.2.2 = true then some x else some b.2.2) = some b.2.2
            rw [if_neg c3]
      · rw [if_neg (by rw [decide_eq_false c1, decide_eq_false c2]; simp)]
        refine ⟨h1, h2, List.mem_append_left _ h3, fun q hq => ?_, ?_⟩
        · rcases List.mem_append.mp hq with r | r
          · exact h4 q r
          · rw [List.mem_singleton.mp r]; omega
        · rw [List.filter_append]
          have : [x].filter (fun q => decide (U q * b.2.1 = b.1 * D q)) = [] := by simp [c2]
          rw [this, List.append_nil, h5]
theorem bI_fold {U D : List Int → Int} : ∀ (L' L : List (List Int)) (acc : bT), (∀ p ∈ L ++ L', 0 < D p) → bI U D L acc → bI U D (L ++ L') (L'.foldl (fun b p => wgh 1 (U p) (D p) p b) acc)
  | [], L, acc, _, h => by rw [List.append_nil]; exact h
  | x :: L', L, acc, hD, h => by
    have h1 := bI_step (x := x) (fun p hp => hD p (by
      rcases List.mem_append.mp hp with r | r
      · exact List.mem_append_left _ r
      · rw [List.mem_singleton.mp r]; simp)) h
    have h2 := bI_fold L' (L ++ [x]) _ (by rw [List.append_assoc]; exact hD) h1
    rw [List.append_assoc] at h2
    exact h2
theorem bI_all {U D : List Int → Int} (L : List (List Int)) (hD : ∀ p ∈ L, 0 < D p) : bI U D L (L.foldl (fun b p => wgh 1 (U p) (D p) p b) none) := by
  have := bI_fold (U := U) (D := D) L [] none (by simpa using hD) rfl
  simpa using this
