/-! RATIOS: the least one: plain law -/
def vI (U D : List Int → Int) (L : List (List Int)) : Option (Int × Int) → Prop
  | none => L = []
  | some u => (∃ p ∈ L, u = (U p, D p)) ∧ ∀ q ∈ L, u.1 * D q ≤ U q * u.2
theorem vI_step {a : Int → Int} {L : List (List Int)} {x : List Int} {acc : Option (Int × Int)} (hD : ∀ p ∈ L ++ [x], 0 < esum a 4 p) (h : vI (esum a 2) (esum a 4) L acc) : vI (esum a 2) (esum a 4) (L ++ [x]) (stp11 a acc x) := by
  have hx : 0 < esum a 4 x := hD x (by simp)
  cases acc with
  | none =>
    have h : L = [] := h
    subst h
    refine ⟨⟨x, by simp, rfl⟩, fun q hq => ?_⟩
    rw [List.nil_append, List.mem_singleton] at hq
    subst hq
    exact Int.le_refl _
  | some u =>
    obtain ⟨⟨p, hp, hu⟩, h4⟩ := h
    have hu2 : 0 < u.2 := by rw [hu]; exact hD p (List.mem_append_left _ hp)
    obtain ⟨g1, g2, g3⟩ := gsg_iff (esum a 2 x * u.2 - u.1 * esum a 4 x)
    show vI _ _ _ (if gsg (esum a 2 x * u.2 - u.1 * esum a 4 x) < 0 then some (esum a 2 x, esum a 4 x) else some u)
    by_cases c : gsg (esum a 2 x * u.2 - u.1 * esum a 4 x) < 0
    · rw [if_pos c]
      have c1 := g1.mp c
      refine ⟨⟨x, by simp, rfl⟩, fun q hq => ?_⟩
      rcases List.mem_append.mp hq with r | r
      · show esum a 2 x * esum a 4 q ≤ esum a 2 q * esum a 4 x
        exact Int.le_of_lt (cross_lt (u := u.1) (d := u.2) hu2 hx (hD q hq) (h4 q r) (by omega))
      · rw [List.mem_singleton.mp r]; exact Int.le_refl _
    · rw [if_neg c]
      have c1 : ¬ (esum a 2 x * u.2 - u.1 * esum a 4 x < 0) := fun z => c (g1.mpr z)
      refine ⟨⟨p, List.mem_append_left _ hp, hu⟩, fun q hq => ?_⟩
      rcases List.mem_append.mp hq with r | r
      · exact h4 q r
      · rw [List.mem_singleton.mp r]; omega
theorem vI_fold {a : Int → Int} : ∀ (L' L : List (List Int)) (acc : Option (Int × Int)), (∀ p ∈ L ++ L', 0 < esum a 4 p) → vI (esum a 2) (esum a 4) L acc → vI (esum a 2) (esum a 4) (L ++ L') (L'.foldl (stp11 a) acc)
  | [], L, acc, _, h => by rw [List.append_nil]; exact h
  | x :: L', L, acc, hD, h => by
    have h1 := vI_step (x := x) (fun p hp => hD p (by
      rcases List.mem_append.mp hp with r | r
      · exact List.mem_append_left _ r
      · rw [List.mem_singleton.mp r]; simp)) h
    have h2 := vI_fold L' (L ++ [x]) _ (by rw [List.append_assoc]; exact hD) h1
    rw [List.append_assoc] at h2
    exact h2
theorem vI_all {a : Int → Int} (L : List (List Int)) (hD : ∀ p ∈ L, 0 < esum a 4 p) : vI (esum a 2) (esum a 4) L (L.foldl (stp11 a) none) := by
  have := vI_fold (a := a) L [] none (by simpa using hD) rfl
  simpa using this
theorem gBest_none {k : Int} {a : Int → Int} (hk : k = 0 ∨ k = 1) (hg : gV a) : gBest k a = none ↔ gC a = [] := by
  have hI := bI_all (U := esum a 2) (D := vDn k a) (gC a) (vDn_pos hg hk)
  rw [← gBest_f k a hk] at hI
  constructor
  · intro h
    rw [h] at hI
    exact hI
  · intro h
    rw [gBest_f k a hk, h]
    rfl
/-- the least-ratio cycle is the same on both sides -/
theorem rcB_eq {a : Int → Int} (hg : gV a) : rcB a = (gBest 1 a).map redB := by
  have hk : (1 : Int) = 0 ∨ (1 : Int) = 1 := Or.inr rfl
  have hD1 : ∀ p ∈ gC a, 0 < esum a 4 p := fun p hp => vDn_pos hg hk p hp
  have hV := vI_all (gC a) hD1
  unfold rcB
  cases hf : List.foldl (stp11 a) none (gC a) with
  | none =>
    rw [hf] at hV
    have hV : gC a = [] := hV
    rw [(gBest_none hk hg).mpr hV]
    rfl
  | some u =>
    rw [hf] at hV
    obtain ⟨⟨p, hp, hu⟩, h4⟩ := hV
    have hI := bI_all (U := esum a 2) (D := vDn 1 a) (gC a) (vDn_pos hg hk)
    rw [← gBest_f 1 a hk] at hI
    cases hb : gBest 1 a with
    | none =>
      rw [hb] at hI
      have hI : gC a = [] := hI
      rw [hI] at hp
      cases hp
    | some b =>
      rw [hb] at hI
      obtain ⟨h1, h2, h3, h5, -⟩ := hI
      have hd : vDn 1 a = esum a 4 := rfl
      rw [hd] at h2 h5
      have hu2 : 0 < u.2 := by rw [hu]; exact hD1 p hp
      have hb2 : 0 < b.2.1 := by rw [h2]; exact hD1 _ h3
      have e1 := h5 p hp
      have e2 := h4 _ h3
      have hu1 : u.1 = esum a 2 p := by rw [hu]
      have hu3 : u.2 = esum a 4 p := by rw [hu]
      rw [← hu1, ← hu3] at e1
      rw [← h1, ← h2] at e2
      obtain ⟨f1, f2⟩ := fr_same hu2 hb2 (show u.1 * b.2.1 = b.1 * u.2 by omega)
      obtain ⟨-, t2, t3⟩ := best_tight hg hk hb
      dsimp only
      rw [f1, f2]
      have ht : decide ((1 : Int) = 1) = true := rfl
      rw [ht] at t2 t3
      rw [if_pos t2, t3]
      rfl
