/-! KARP: the folds: plain law -/
def gmI (T : Int → Int → Int) (v : Int) (l : List Int) : Option (Int × Int) → Prop
  | none => ∀ k ∈ l, ¬ T k v < 1125899906842624
  | some b => (∃ k ∈ l, T k v < 1125899906842624 ∧ b = (T 8 v - T k v, 8 - k)) ∧ ∀ k ∈ l, T k v < 1125899906842624 → (T 8 v - T k v) * b.2 ≤ b.1 * (8 - k)
theorem gmI_step {T : Int → Int → Int} {v : Int} {l : List Int} {x : Int} {β : Option (Int × Int)} (hl : ∀ k ∈ l ++ [x], k < 8) (h : gmI T v l β) : gmI T v (l ++ [x]) (gmS T v β x) := by
  have hx : x < 8 := hl x (by simp)
  unfold gmS
  by_cases c : T x v < 1125899906842624
  · rw [if_pos c]
    cases β with
    | none =>
      refine ⟨⟨x, by simp, c, rfl⟩, fun k hk hk2 => ?_⟩
      rcases List.mem_append.mp hk with r | r
      · exact absurd hk2 (h k r)
      · rw [List.mem_singleton.mp r]; exact Int.le_refl _
    | some b =>
      obtain ⟨⟨k0, k1, k2, k3⟩, h4⟩ := h
      have hb2 : 0 < b.2 := by rw [k3]; have := hl k0 (List.mem_append_left _ k1); show 0 < 8 - k0; omega
      obtain ⟨g1, g2, g3⟩ := gsg_iff ((T 8 v - T x v) * b.2 - b.1 * (8 - x))
      show gmI T v (l ++ [x]) (if 0 < gsg ((T 8 v - T x v) * b.2 - b.1 * (8 - x)) then some (T 8 v - T x v, 8 - x) else some b)
      by_cases c2 : 0 < gsg ((T 8 v - T x v) * b.2 - b.1 * (8 - x))
      · rw [if_pos c2]
        have c3 := g3.mp c2
        refine ⟨⟨x, by simp, c, rfl⟩, fun k hk hk2 => ?_⟩
        rcases List.mem_append.mp hk with r | r
        · show (T 8 v - T k v) * (8 - x) ≤ (T 8 v - T x v) * (8 - k)
          have hk8 := hl k hk
          exact cross_le (u := b.1) (d := b.2) (ux := T 8 v - T k v) (dx := 8 - k) (uq := T 8 v - T x v) (dq := 8 - x) hb2 (by omega) (by omega) (by omega) (h4 k r hk2)
        · rw [List.mem_singleton.mp r]; exact Int.le_refl _
      · rw [if_neg c2]
        have c3 : ¬ (0 < (T 8 v - T x v) * b.2 - b.1 * (8 - x)) := fun z => c2 (g3.mpr z)
        refine ⟨⟨k0, List.mem_append_left _ k1, k2, k3⟩, fun k hk hk2 => ?_⟩
        rcases List.mem_append.mp hk with r | r
        · exact h4 k r hk2
        · rw [List.mem_singleton.mp r]; omega
  · rw [if_neg c]
    cases β with
    | none =>
      intro k hk
      rcases List.mem_append.mp hk with r | r
      · exact h k r
      · rw [List.mem_singleton.mp r]; exact c
    | some b =>
      obtain ⟨⟨k0, k1, k2, k3⟩, h4⟩ := h
      refine ⟨⟨k0, List.mem_append_left _ k1, k2, k3⟩, fun k hk hk2 => ?_⟩
      rcases List.mem_append.mp hk with r | r
      · exact h4 k r hk2
      · rw [List.mem_singleton.mp r] at hk2; exact absurd hk2 c
theorem gmI_fold {T : Int → Int → Int} {v : Int} : ∀ (l' l : List Int) (β : Option (Int × Int)), (∀ k ∈ l ++ l', k < 8) → gmI T v l β → gmI T v (l ++ l') (l'.foldl (gmS T v) β)
  | [], l, β, _, h => by rw [List.append_nil]; exact h
  | x :: l', l, β, hl, h => by
    have h1 := gmI_step (x := x) (fun k hk => hl k (by
      rcases List.mem_append.mp hk with r | r
      · exact List.mem_append_left _ r
      · rw [List.mem_singleton.mp r]; simp)) h
    have h2 := gmI_fold l' (l ++ [x]) _ (by rw [List.append_assoc]; exact hl) h1
    rw [List.append_assoc] at h2
    exact h2
theorem gmF_I (T : Int → Int → Int) (v : Int) : gmI T v (er 0 8) (gmF T v) := by
  have := gmI_fold (T := T) (v := v) (er 0 8) [] none (by intro k hk; rw [List.nil_append] at hk; exact (er_mem.mp hk).2) (fun k hk => by cases hk)
  rw [List.nil_append] at this
  exact this
def kIt (a : Int → Int) (v : Int) : Option (Int × Int) := if kT a 8 v < 1125899906842624 then gmF (fun k => kT a k.toNat) v else none
theorem kIt_pos {a : Int → Int} {v : Int} {b : Int × Int} (h : kIt a v = some b) : 0 < b.2 := by
  unfold kIt at h
  split at h
  · have h1 := gmF_I (fun k => kT a k.toNat) v
    rw [h] at h1
    obtain ⟨⟨k, k1, _, k3⟩, _⟩ := h1
    have := (er_mem.mp k1).2
    rw [k3]
    show 0 < 8 - k
    omega
  · cases h
def kmI (a : Int → Int) (l : List Int) : Option (Int × Int) → Prop
  | none => ∀ v ∈ l, kIt a v = none
  | some u => (∃ v ∈ l, kIt a v = some u) ∧ ∀ v ∈ l, ∀ b, kIt a v = some b → u.1 * b.2 ≤ b.1 * u.2
theorem kmI_step {a : Int → Int} {l : List Int} {x : Int} {β : Option (Int × Int)} (h : kmI a l β) : kmI a (l ++ [x]) (kmS a β x) := by
  show kmI a (l ++ [x]) (kmJ (kIt a x) β)
  cases hx : kIt a x with
  | none =>
    cases β with
    | none =>
      intro v hv
      rcases List.mem_append.mp hv with r | r
      · exact h v r
      · rw [List.mem_singleton.mp r]; exact hx
    | some u =>
      obtain ⟨⟨v0, v1, v2⟩, h4⟩ := h
      refine ⟨⟨v0, List.mem_append_left _ v1, v2⟩, fun v hv b hb => ?_⟩
      rcases List.mem_append.mp hv with r | r
      · exact h4 v r b hb
      · rw [List.mem_singleton.mp r, hx] at hb; cases hb
  | some w =>
    have hw := kIt_pos hx
    cases β with
    | none =>
      refine ⟨⟨x, by simp, hx⟩, fun v hv b hb => ?_⟩
      rcases List.mem_append.mp hv with r | r
      · rw [h v r] at hb; cases hb
      · rw [List.mem_singleton.mp r, hx] at hb
        cases hb
        exact Int.le_refl _
    | some u =>
      obtain ⟨⟨v0, v1, v2⟩, h4⟩ := h
      have hu := kIt_pos v2
      obtain ⟨g1, g2, g3⟩ := gsg_iff (w.1 * u.2 - u.1 * w.2)
      show kmI a (l ++ [x]) (if gsg (w.1 * u.2 - u.1 * w.2) < 0 then some w else some u)
      by_cases c : gsg (w.1 * u.2 - u.1 * w.2) < 0
      · rw [if_pos c]
        have c1 := g1.mp c
        refine ⟨⟨x, by simp, hx⟩, fun v hv b hb => ?_⟩
        rcases List.mem_append.mp hv with r | r
        · exact Int.le_of_lt (cross_lt (u := u.1) (d := u.2) hu hw (kIt_pos hb) (h4 v r b hb) (by omega))
        · rw [List.mem_singleton.mp r, hx] at hb
          cases hb
          exact Int.le_refl _
      · rw [if_neg c]
        have c1 : ¬ (w.1 * u.2 - u.1 * w.2 < 0) := fun z => c (g1.mpr z)
        refine ⟨⟨v0, List.mem_append_left _ v1, v2⟩, fun v hv b hb => ?_⟩
        rcases List.mem_append.mp hv with r | r
        · exact h4 v r b hb
        · rw [List.mem_singleton.mp r, hx] at hb
          cases hb
          omega
theorem kmI_fold {a : Int → Int} : ∀ (l' l : List Int) (β : Option (Int × Int)), kmI a l β → kmI a (l ++ l') (l'.foldl (kmS a) β)
  | [], l, β, h => by rw [List.append_nil]; exact h
  | x :: l', l, β, h => by
    have h2 := kmI_fold l' (l ++ [x]) _ (kmI_step (x := x) h)
    rw [List.append_assoc] at h2
    exact h2
theorem kmG_I (a : Int → Int) : kmI a (er 0 8) (kmG a) := by
  have := kmI_fold (a := a) (er 0 8) [] none (fun v hv => by cases hv)
  rw [List.nil_append] at this
  exact this
