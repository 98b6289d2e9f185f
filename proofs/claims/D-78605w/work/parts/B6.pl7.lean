/-! KARP's table: plain law -/
def wF (a : Int → Int) : Int → Int := fun e => a (7 * e + 2)
theorem cs_b {c : Int → Int} {M : Int} : ∀ (p : List Int), (∀ e ∈ p, -M ≤ c e ∧ c e ≤ M) → -(M * p.length) ≤ cs c p ∧ cs c p ≤ M * p.length
  | [], _ => by rw [cs_nil]; simp
  | e :: p, h => by
    have h1 := h e List.mem_cons_self
    have h2 := cs_b p (fun x hx => h x (List.mem_cons_of_mem _ hx))
    rw [cs_cons, List.length_cons, Int.natCast_add, Int.mul_add]
    omega
theorem wF_b {a : Int → Int} (hg : gV a) : ∀ e ∈ er 0 (a 112), -99 ≤ wF a e ∧ wF a e ≤ 99 := fun e he => by
  have h := hg.2 e (er_mem.mp he).1 (er_mem.mp he).2
  unfold eV at h
  exact h.2.2.1
/-- every weight in the table is a walk's -/
def kWA (a : Int → Int) (k : Nat) (f : Int → Int) : Prop := ∀ v, 0 ≤ v → v ≤ 7 → f v < 1125899906842624 → ∃ u p, (0 ≤ u ∧ u ≤ 7) ∧ pw a (er 0 (a 112)) u p v ∧ p.length = k ∧ f v = cs (wF a) p
theorem kE_WA {a p cur : Int → Int} {k : Nat} {e : Int} (hg : gV a) (he : e ∈ er 0 (a 112)) (hp : kWA a k p) (hc : kWA a (k + 1) cur) : kWA a (k + 1) (kE a p cur e) := by
  have hr := nR_er hg e he
  unfold kE
  split
  · next q =>
    intro v v0 v7 hv
    by_cases r : v = a (7 * e + 1)
    · subst r
      rw [zf_s] at hv ⊢
      by_cases m : cur (a (7 * e + 1)) ≤ p (a (7 * e)) + a (7 * e + 2)
      · rw [Int.min_eq_left m] at hv ⊢
        exact hc _ v0 v7 hv
      · rw [Int.min_eq_right (by omega)]
        obtain ⟨u, w, hu, hw, hl, hf⟩ := hp _ hr.1.1 hr.1.2 q
        refine ⟨u, w ++ [e], hu, pw_app hw ⟨he, rfl, rfl⟩, by rw [List.length_append, hl]; rfl, ?_⟩
        rw [cs_app, cs_cons, cs_nil, ← hf]
        show p (a (7 * e)) + a (7 * e + 2) = p (a (7 * e)) + (a (7 * e + 2) + 0)
        omega
    · rw [zf_n r] at hv ⊢
      exact hc v v0 v7 hv
  · exact hc
theorem kL_WA {a p : Int → Int} {k : Nat} (hg : gV a) (hp : kWA a k p) : ∀ (l : List Int) (cur : Int → Int), (∀ e ∈ l, e ∈ er 0 (a 112)) → kWA a (k + 1) cur → kWA a (k + 1) (l.foldl (kE a p) cur)
  | [], _, _, h => h
  | e :: l, cur, hm, h => kL_WA hg hp l _ (fun x hx => hm x (List.mem_cons_of_mem _ hx)) (kE_WA hg (hm e List.mem_cons_self) hp h)
theorem kT_WA {a : Int → Int} (hg : gV a) : ∀ k : Nat, kWA a k (kT a k)
  | 0 => fun v v0 v7 _ => ⟨v, [], ⟨v0, v7⟩, rfl, rfl, rfl⟩
  | k + 1 => kL_WA hg (kT_WA hg k) _ _ (fun _ h => h) (fun v _ _ h => absurd h (Int.lt_irrefl _))
theorem kE_le {a p cur : Int → Int} (e v : Int) : kE a p cur e v ≤ cur v := by
  unfold kE
  split
  · by_cases q : v = a (7 * e + 1)
    · rw [q, zf_s]; omega
    · rw [zf_n q]; exact Int.le_refl _
  · exact Int.le_refl _
theorem kL_le {a p : Int → Int} : ∀ (l : List Int) (cur : Int → Int) (v : Int), (l.foldl (kE a p) cur) v ≤ cur v
  | [], _, _ => Int.le_refl _
  | e :: l, cur, v => Int.le_trans (kL_le l _ v) (kE_le e v)
/-- no walk of k edges is less -/
theorem kT_UB {a : Int → Int} (hg : gV a) : ∀ (k : Nat), k ≤ 100 → ∀ u p v, (0 ≤ u ∧ u ≤ 7) → pw a (er 0 (a 112)) u p v → p.length = k → kT a k v ≤ cs (wF a) p
  | 0, _, u, p, v, _, h, hl => by
    have : p = [] := List.length_eq_zero_iff.mp hl
    subst this
    exact Int.le_refl _
  | k + 1, hk, u, p, v, hu, h, hl => by
    obtain ⟨q, e, h1, h2, h3, h4⟩ := pw_snoc h (by intro z; rw [z] at hl; cases hl)
    rw [h1, List.length_append, List.length_singleton] at hl
    have i1 := kT_UB hg k (by omega) u q _ hu h3 (by omega)
    have i0 := cs_b q (fun x hx => wF_b hg x (pw_mem h3 x hx))
    have hlt : kT a k (a (7 * e)) < 1125899906842624 := by omega
    obtain ⟨l, m, hlm⟩ := List.append_of_mem h2
    have i5 : kT a (k + 1) = m.foldl (kE a (kT a k)) (kE a (kT a k) (l.foldl (kE a (kT a k)) (fun _ => 1125899906842624)) e) := by
      show (er 0 (a 112)).foldl _ _ = _
      rw [hlm, List.foldl_append]
      rfl
    have i2 := kL_le (a := a) (p := kT a k) m (kE a (kT a k) (l.foldl (kE a (kT a k)) (fun _ => 1125899906842624)) e) v
    have i3 : kE a (kT a k) (l.foldl (kE a (kT a k)) (fun _ => 1125899906842624)) e v ≤ kT a k (a (7 * e)) + a (7 * e + 2) := by
      unfold kE
      rw [if_pos hlt, ← h4, zf_s]
      omega
    rw [i5, h1, cs_app, cs_cons, cs_nil]
    show _ ≤ cs (wF a) q + (a (7 * e + 2) + 0)
    omega
