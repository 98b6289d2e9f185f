/-! RELAXING settles if and only if no cycle is less than 0: plain law -/
def rxG (a c : Int → Int) (es : List Int) : Nat → (Int → Int) → (Int → Int) × Bool
  | 0, f => (f, false)
  | k + 1, f => if (rxL a c (f, false) es).2 = true then rxG a c es k (rxL a c (f, false) es).1 else ((rxL a c (f, false) es).1, true)
theorem rxN_G (a c : Int → Int) : ∀ (k : Nat) (f : Int → Int), rxN a c k f = rxG a c (er 0 (a 112)) k f
  | 0, _ => rfl
  | k + 1, f => by
    rw [rxN, rxG, rxN_G a c k]
    rfl
theorem rxM_G (a c : Int → Int) (B : Nat) : ∀ (k : Nat) (f : Int → Int), rxM a c B k f = rxG a c ((er 0 (a 112)).filter (inE a B)) k f
  | 0, _ => rfl
  | k + 1, f => by rw [rxM, rxG, rxM_G a c B k]
/-- every value is a walk's cost -/
def WA (a c : Int → Int) (es : List Int) (f : Int → Int) : Prop := ∀ v, 0 ≤ v → v ≤ 7 → ∃ u p, (0 ≤ u ∧ u ≤ 7) ∧ pw a es u p v ∧ f v = cs c p
/-- no walk of k edges at the most is less -/
def UB (a c : Int → Int) (es : List Int) (k : Nat) (f : Int → Int) : Prop := ∀ u p v, (0 ≤ u ∧ u ≤ 7) → pw a es u p v → p.length ≤ k → f v ≤ cs c p
theorem WA_0 (a c : Int → Int) (es : List Int) : WA a c es (fun _ => 0) := fun v v0 v7 => ⟨v, [], ⟨v0, v7⟩, rfl, rfl⟩
theorem UB_0 (a c : Int → Int) (es : List Int) : UB a c es 0 (fun _ => 0) := fun u p v _ h hl => by
  have : p = [] := List.length_eq_zero_iff.mp (by omega)
  subst this
  exact Int.le_refl _
theorem rxE_WA {a c : Int → Int} {es : List Int} (hr : nR a es) {f : Int → Int} {b : Bool} (h : WA a c es f) {e : Int} (he : e ∈ es) : WA a c es (rxE a c (f, b) e).1 := by
  unfold rxE
  split
  · intro v v0 v7
    by_cases q : v = a (7 * e + 1)
    · obtain ⟨u, p, hu, hp, hf⟩ := h (a (7 * e)) (hr e he).1.1 (hr e he).1.2
      refine ⟨u, p ++ [e], hu, pw_app hp ⟨he, rfl, q.symm⟩, ?_⟩
      rw [q]
      show zf _ _ _ _ = _
      rw [zf_s, cs_app, cs_cons, cs_nil, ← hf]
      dsimp only
      omega
    · show ∃ u p, _ ∧ _ ∧ zf _ _ _ _ = _
      rw [zf_n q]
      exact h v v0 v7
  · exact h
theorem rxL_WA {a c : Int → Int} {es : List Int} (hr : nR a es) : ∀ (l : List Int) (x : (Int → Int) × Bool), (∀ e ∈ l, e ∈ es) → WA a c es x.1 → WA a c es (rxL a c x l).1
  | [], _, _, h => h
  | e :: l, x, hm, h => rxL_WA hr l _ (fun y hy => hm y (List.mem_cons_of_mem _ hy)) (rxE_WA (b := x.2) hr h (hm e List.mem_cons_self))
theorem rxE_le {a c : Int → Int} (x : (Int → Int) × Bool) (e v : Int) : (rxE a c x e).1 v ≤ x.1 v := by
  unfold rxE
  split
  · next h =>
    show zf _ _ _ _ ≤ _
    by_cases q : v = a (7 * e + 1)
    · rw [q, zf_s]; omega
    · rw [zf_n q]; exact Int.le_refl _
  · exact Int.le_refl _
theorem rxL_le {a c : Int → Int} : ∀ (l : List Int) (x : (Int → Int) × Bool) (v : Int), (rxL a c x l).1 v ≤ x.1 v
  | [], _, _ => Int.le_refl _
  | e :: l, x, v => Int.le_trans (rxL_le l (rxE a c x e) v) (rxE_le x e v)
/-- behind the relaxing of e -/
theorem rxE_e {a c : Int → Int} (x : (Int → Int) × Bool) (e : Int) : (rxE a c x e).1 (a (7 * e + 1)) ≤ x.1 (a (7 * e)) + c e := by
  unfold rxE
  split
  · show zf _ _ _ _ ≤ _
    rw [zf_s]
    exact Int.le_refl _
  · omega
theorem rxL_app {a c : Int → Int} (x : (Int → Int) × Bool) (l m : List Int) : rxL a c x (l ++ m) = rxL a c (rxL a c x l) m := List.foldl_append ..
theorem pw_snoc {a : Int → Int} {es : List Int} : ∀ {p : List Int} {u v : Int}, pw a es u p v → p ≠ [] → ∃ q e, p = q ++ [e] ∧ e ∈ es ∧ pw a es u q (a (7 * e)) ∧ a (7 * e + 1) = v
  | [], _, _, _, h => absurd rfl h
  | [e], u, v, h, _ => ⟨[], e, rfl, h.1, h.2.1.symm, h.2.2⟩
  | e :: y :: p, u, v, h, _ => by
    obtain ⟨q, z, h1, h2, h3, h4⟩ := pw_snoc h.2.2 (by simp)
    exact ⟨e :: q, z, by rw [h1]; rfl, h2, ⟨h.1, h.2.1, h3⟩, h4⟩
theorem rxL_UB {a c : Int → Int} {es : List Int} {k : Nat} {f : Int → Int} {b : Bool} (h : UB a c es k f) : UB a c es (k + 1) (rxL a c (f, b) es).1 := by
  intro u p v hu hp hl
  by_cases hpn : p = []
  · have := h u p v hu hp (by rw [hpn]; exact Nat.zero_le _)
    exact Int.le_trans (rxL_le es (f, b) v) this
  · obtain ⟨q, e, h1, h2, h3, h4⟩ := pw_snoc hp hpn
    obtain ⟨l, m, hlm⟩ := List.append_of_mem h2
    rw [h1, List.length_append, List.length_singleton] at hl
    have i1 := h u q _ hu h3 (by omega)
    have i2 := rxL_le l (f, b) (c := c) (a := a) (a (7 * e))
    have i3 := rxE_e (c := c) (a := a) (rxL a c (f, b) l) e
    have i4 := rxL_le m (rxE a c (rxL a c (f, b) l) e) (c := c) (a := a) v
    have i5 : rxL a c (f, b) es = rxL a c (rxE a c (rxL a c (f, b) l) e) m := by
      rw [hlm, rxL_app]
      rfl
    rw [i5, h1, cs_app, cs_cons, cs_nil]
    rw [h4] at i3
    dsimp only at i2
    omega
/-- what the flag says -/
theorem rxL_t {a c : Int → Int} : ∀ (l : List Int) (f : Int → Int), (rxL a c (f, true) l).2 = true
  | [], _ => rfl
  | e :: l, f => by
    show (rxL a c (rxE a c (f, true) e) l).2 = true
    have : rxE a c (f, true) e = ((rxE a c (f, true) e).1, true) := by
      unfold rxE
      split <;> rfl
    rw [this]
    exact rxL_t l _
theorem rxL_flag {a c : Int → Int} : ∀ (l : List Int) (f : Int → Int), ((rxL a c (f, false) l).2 = false ∧ (rxL a c (f, false) l).1 = f ∧ ∀ e ∈ l, f (a (7 * e + 1)) ≤ f (a (7 * e)) + c e) ∨ ((rxL a c (f, false) l).2 = true ∧ ∃ e ∈ l, (rxL a c (f, false) l).1 (a (7 * e + 1)) < f (a (7 * e + 1)))
  | [], f => Or.inl ⟨rfl, rfl, fun e he => by cases he⟩
  | e :: l, f => by
    by_cases q : f (a (7 * e)) + c e < f (a (7 * e + 1))
    · have h1 : rxE a c (f, false) e = (zf f (a (7 * e + 1)) (f (a (7 * e)) + c e), true) := if_pos q
      have h2 : rxL a c (f, false) (e :: l) = rxL a c (zf f (a (7 * e + 1)) (f (a (7 * e)) + c e), true) l := by
        show rxL a c (rxE a c (f, false) e) l = _
        rw [h1]
      refine Or.inr ⟨by rw [h2]; exact rxL_t l _, e, List.mem_cons_self, ?_⟩
      have h3 := rxL_le l (zf f (a (7 * e + 1)) (f (a (7 * e)) + c e), true) (a := a) (c := c) (a (7 * e + 1))
      rw [h2]
      dsimp only at h3
      rw [zf_s] at h3
      omega
    · have h1 : rxE a c (f, false) e = (f, false) := if_neg q
      have h2 : rxL a c (f, false) (e :: l) = rxL a c (f, false) l := by
        show rxL a c (rxE a c (f, false) e) l = _
        rw [h1]
      rw [h2]
      rcases rxL_flag l f with ⟨i1, i2, i3⟩ | ⟨i1, z, i2, i3⟩
      · refine Or.inl ⟨i1, i2, fun z hz => ?_⟩
        rcases List.mem_cons.mp hz with r | r
        · rw [r]; omega
        · exact i3 z r
      · exact Or.inr ⟨i1, z, List.mem_cons_of_mem _ i2, i3⟩
/-- settled: nothing is less -/
theorem rxG_pot {a c : Int → Int} {es : List Int} : ∀ (k : Nat) (f : Int → Int), (rxG a c es k f).2 = true → ∀ e ∈ es, (rxG a c es k f).1 (a (7 * e + 1)) ≤ (rxG a c es k f).1 (a (7 * e)) + c e
  | 0, f, h => by cases h
  | k + 1, f, h => by
    rw [rxG] at h ⊢
    split at h
    · next q =>
      rw [if_pos q]
      exact rxG_pot k _ h
    · next q =>
      rw [if_neg q]
      rcases rxL_flag es f with ⟨_, i2, i3⟩ | ⟨i1, _⟩
      · dsimp only
        rw [i2]
        exact i3
      · exact absurd i1 q
theorem pot_walk {a c F : Int → Int} {es : List Int} (h : ∀ e ∈ es, F (a (7 * e + 1)) ≤ F (a (7 * e)) + c e) : ∀ {p : List Int} {u v : Int}, pw a es u p v → F v ≤ F u + cs c p
  | [], u, v, hp => by
    have hp : u = v := hp
    rw [hp, cs_nil]
    omega
  | e :: p, u, v, hp => by
    have h1 := pot_walk h hp.2.2
    have h2 := h e hp.1
    rw [hp.2.1] at h2
    rw [cs_cons]
    omega
theorem settled_nn {a c : Int → Int} {es : List Int} {k : Nat} {f : Int → Int} (h : (rxG a c es k f).2 = true) : NN a c es := fun p hp => by
  obtain ⟨s, hs, hd⟩ := gCs_mem.mp hp
  have h1 := pot_walk (rxG_pot k f h) (gW_pw ((gD_iff 8).mp hd).1)
  omega
/-- without such a cycle it settles in eight passes -/
theorem rxG_settles {a c : Int → Int} {es : List Int} (hr : nR a es) (hN : NN a c es) : ∀ (n k : Nat) (f : Int → Int), WA a c es f → UB a c es k f → 8 ≤ k + n → 1 ≤ n → (rxG a c es n f).2 = true
  | 0, _, _, _, _, _, h => absurd h (by decide)
  | n + 1, k, f, hW, hU, hk, _ => by
    rw [rxG]
    have hW2 := rxL_WA hr es (f, false) (c := c) (fun e he => he) hW
    have hU2 := rxL_UB (b := false) hU
    rcases rxL_flag (a := a) (c := c) es f with ⟨i1, _⟩ | ⟨i1, e, i2, i3⟩
    · rw [if_neg (by rw [i1]; decide)]
    · rw [if_pos i1]
      have hv := (hr e i2).2
      obtain ⟨u, p, hu, hp, hf⟩ := hW2 (a (7 * e + 1)) hv.1 hv.2
      obtain ⟨q, q1, q2, q3, q4⟩ := simple_le hr hN p.length (Nat.le_refl _) hp
      have q5 := simple_7 hr q1 q2 hu
      have hk7 : k < 7 := Nat.lt_of_not_le (fun h7 => by
        have h8 := hU u q _ hu q1 (by omega)
        omega)
      exact rxG_settles hr hN n (k + 1) _ hW2 hU2 (by omega) (by omega)
theorem rxG_more {a c : Int → Int} {es : List Int} : ∀ (n m : Nat) (f : Int → Int), (rxG a c es n f).2 = true → rxG a c es (n + m) f = rxG a c es n f
  | 0, _, _, h => by cases h
  | n + 1, m, f, h => by
    rw [show n + 1 + m = (n + m) + 1 by omega]
    rw [rxG] at h ⊢
    rw [rxG]
    split at h
    · next q =>
      rw [if_pos q, if_pos q]
      exact rxG_more n m _ h
    · next q => rw [if_neg q, if_neg q]
