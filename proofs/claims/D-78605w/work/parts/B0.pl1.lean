/-! WALKS of any kind, their costs: plain law -/
def pw (a : Int → Int) (es : List Int) : Int → List Int → Int → Prop
  | u, [], v => u = v
  | u, e :: p, v => e ∈ es ∧ a (7 * e) = u ∧ pw a es (a (7 * e + 1)) p v
def cs (c : Int → Int) (p : List Int) : Int := (p.map c).sum
def hds (a : Int → Int) (p : List Int) : List Int := p.map (fun e => a (7 * e + 1))
theorem cs_nil (c : Int → Int) : cs c [] = 0 := rfl
theorem cs_cons (c : Int → Int) (e : Int) (p : List Int) : cs c (e :: p) = c e + cs c p := rfl
theorem cs_app (c : Int → Int) : ∀ (p q : List Int), cs c (p ++ q) = cs c p + cs c q
  | [], q => by rw [List.nil_append, cs_nil]; omega
  | e :: p, q => by rw [List.cons_append, cs_cons, cs_cons, cs_app c p q]; omega
theorem pw_app {a : Int → Int} {es : List Int} : ∀ {p q : List Int} {u v w : Int}, pw a es u p v → pw a es v q w → pw a es u (p ++ q) w
  | [], q, u, v, w, h1, h2 => by
    have h1 : u = v := h1
    subst h1
    exact h2
  | e :: p, q, u, v, w, h1, h2 => ⟨h1.1, h1.2.1, pw_app h1.2.2 h2⟩
theorem pw_cut {a : Int → Int} {es : List Int} : ∀ {p q : List Int} {u w : Int}, pw a es u (p ++ q) w → ∃ v, pw a es u p v ∧ pw a es v q w
  | [], q, u, w, h => ⟨u, rfl, h⟩
  | e :: p, q, u, w, h => by
    obtain ⟨v, h1, h2⟩ := pw_cut (p := p) h.2.2
    exact ⟨v, ⟨h.1, h.2.1, h1⟩, h2⟩
theorem pw_mem {a : Int → Int} {es : List Int} : ∀ {p : List Int} {u v : Int}, pw a es u p v → ∀ e ∈ p, e ∈ es
  | [], _, _, _, e, he => by cases he
  | x :: p, u, v, h, e, he => by
    rcases List.mem_cons.mp he with q | q
    · rw [q]; exact h.1
    · exact pw_mem h.2.2 e q
theorem pw_sub {a : Int → Int} {es fs : List Int} : ∀ {p : List Int} {u v : Int}, pw a es u p v → (∀ e ∈ p, e ∈ fs) → pw a fs u p v
  | [], _, _, h, _ => h
  | x :: p, u, v, h, hm => ⟨hm x List.mem_cons_self, h.2.1, pw_sub h.2.2 (fun e he => hm e (List.mem_cons_of_mem _ he))⟩
/-- a walk to a node that it passes -/
theorem pw_at {a : Int → Int} {es : List Int} : ∀ {p : List Int} {u v x : Int}, pw a es u p v → x ∈ u :: hds a p → ∃ p1 p2, p = p1 ++ p2 ∧ pw a es u p1 x ∧ pw a es x p2 v
  | p, u, v, x, h, hx => by
    rcases List.mem_cons.mp hx with q | q
    · subst q
      exact ⟨[], p, rfl, rfl, h⟩
    · match p, h, q with
      | e :: p, h, q =>
        obtain ⟨p1, p2, h1, h2, h3⟩ := pw_at h.2.2 q
        exact ⟨e :: p1, p2, by rw [h1]; rfl, ⟨h.1, h.2.1, h2⟩, h3⟩
  termination_by p => p.length
/-- a walk is simple, or has a closed walk within -/
theorem pw_dup {a : Int → Int} {es : List Int} : ∀ {p : List Int} {u v : Int}, pw a es u p v → (u :: hds a p).Nodup ∨ ∃ p1 p2 p3 x, p = p1 ++ (p2 ++ p3) ∧ p2 ≠ [] ∧ pw a es u p1 x ∧ pw a es x p2 x ∧ pw a es x p3 v
  | [], u, v, _ => Or.inl (by simp [hds])
  | e :: p, u, v, h => by
    rcases pw_dup h.2.2 with hn | ⟨p1, p2, p3, x, h1, h2, h3, h4, h5⟩
    · by_cases hu : u ∈ a (7 * e + 1) :: hds a p
      · obtain ⟨p1, p2, h1, h2, h3⟩ := pw_at h.2.2 hu
        exact Or.inr ⟨[], e :: p1, p2, u, by rw [h1]; rfl, by simp, rfl, ⟨h.1, h.2.1, h2⟩, h3⟩
      · exact Or.inl (List.nodup_cons.mpr ⟨hu, hn⟩)
    · exact Or.inr ⟨e :: p1, p2, p3, x, by rw [h1]; rfl, h2, ⟨h.1, h.2.1, h3⟩, h4, h5⟩
/-- nodes in range, edges' list -/
def nR (a : Int → Int) (es : List Int) : Prop := ∀ e ∈ es, (0 ≤ a (7 * e) ∧ a (7 * e) ≤ 7) ∧ 0 ≤ a (7 * e + 1) ∧ a (7 * e + 1) ≤ 7
theorem len_sub : ∀ (l m : List Int), l.Nodup → (∀ x ∈ l, x ∈ m) → l.length ≤ m.length
  | [], _, _, _ => Nat.zero_le _
  | x :: l, m, hn, hm => by
    obtain ⟨n1, n2⟩ := List.nodup_cons.mp hn
    have h1 := hm x List.mem_cons_self
    have h2 := len_sub l (m.erase x) n2 (fun y hy => (List.mem_erase_of_ne (fun (q : y = x) => n1 (by rw [← q]; exact hy))).mpr (hm y (List.mem_cons_of_mem _ hy)))
    rw [List.length_erase_of_mem h1] at h2
    have h3 := List.length_pos_of_mem h1
    rw [List.length_cons]
    omega
theorem nodup_8 {l : List Int} (hn : l.Nodup) (hr : ∀ v ∈ l, 0 ≤ v ∧ v ≤ 7) : l.length ≤ 8 := by
  have h := len_sub l (er 0 8) hn (fun v hv => er_mem.mpr (by have := hr v hv; omega))
  rw [er_len] at h
  exact h
theorem hds_r {a : Int → Int} {es : List Int} (hr : nR a es) {p : List Int} (h : ∀ e ∈ p, e ∈ es) : ∀ v ∈ hds a p, 0 ≤ v ∧ v ≤ 7 := fun v hv => by
  obtain ⟨e, he, rfl⟩ := List.mem_map.mp hv
  exact (hr e (h e he)).2
/-- what a search lists -/
def gW (a : Int → Int) (z : Int) (es : List Int) : (Int → Bool) → Int → List Int → Prop
  | _, _, [] => False
  | T, v, e :: q => e ∈ es ∧ a (7 * e) = v ∧ (if a (7 * e + 1) = z then q = [] else T (a (7 * e + 1)) = false ∧ gW a z es (gtk T (a (7 * e + 1))) (a (7 * e + 1)) q)
theorem gD_iff {a : Int → Int} {z : Int} {es : List Int} : ∀ (d : Nat) {T : Int → Bool} {v : Int} {p : List Int}, p ∈ gD a z es d T v ↔ gW a z es T v p ∧ p.length ≤ d
  | 0, T, v, p => by
    constructor
    · intro h; simp [gD] at h
    · rintro ⟨h1, h2⟩
      have : p = [] := List.length_eq_zero_iff.mp (by omega)
      rw [this] at h1
      exact h1.elim
  | d + 1, T, v, p => by
    rw [show gD a z es (d + 1) T v = es.flatMap (gI a z (gD a z es d) T v) from rfl, List.mem_flatMap]
    constructor
    · rintro ⟨e, he, h⟩
      unfold gI at h
      split at h
      · next hk =>
        obtain ⟨k1, k2⟩ := gok_iff.mp hk
        split at h
        · next hz =>
          rw [List.mem_singleton] at h
          subst h
          exact ⟨⟨he, k1, by rw [if_pos hz]⟩, by simp⟩
        · next hz =>
          obtain ⟨q, hq, rfl⟩ := List.mem_map.mp h
          obtain ⟨i1, i2⟩ := (gD_iff d).mp hq
          refine ⟨⟨he, k1, ?_⟩, by rw [List.length_cons]; omega⟩
          rw [if_neg hz]
          rcases k2 with k2 | k2
          · exact absurd k2 hz
          · exact ⟨k2, i1⟩
      · cases h
    · rintro ⟨h1, h2⟩
      match p, h1, h2 with
      | e :: q, h1, h2 =>
        obtain ⟨he, k1, k2⟩ := h1
        refine ⟨e, he, ?_⟩
        unfold gI
        by_cases hz : a (7 * e + 1) = z
        · rw [if_pos hz] at k2
          subst k2
          rw [if_pos (gok_iff.mpr ⟨k1, Or.inl hz⟩), if_pos hz]
          exact List.mem_singleton.mpr rfl
        · rw [if_neg hz] at k2
          rw [if_pos (gok_iff.mpr ⟨k1, Or.inr k2.1⟩), if_neg hz]
          exact List.mem_map.mpr ⟨q, (gD_iff d).mpr ⟨k2.2, by rw [List.length_cons] at h2; omega⟩, rfl⟩
/-- what is listed are walks -/
theorem gW_pw {a : Int → Int} {z : Int} {es : List Int} : ∀ {p : List Int} {T : Int → Bool} {v : Int}, gW a z es T v p → pw a es v p z
  | [], _, _, h => h.elim
  | e :: q, T, v, h => by
    obtain ⟨h1, h2, h3⟩ := h
    refine ⟨h1, h2, ?_⟩
    by_cases hz : a (7 * e + 1) = z
    · rw [if_pos hz] at h3
      subst h3
      exact hz
    · rw [if_neg hz] at h3
      exact gW_pw h3.2
/-- the last node is a head -/
theorem pw_last {a : Int → Int} {es : List Int} : ∀ {x : Int} {q : List Int} {u z : Int}, pw a es u (x :: q) z → z ∈ hds a (x :: q)
  | x, [], u, z, h => by
    have : a (7 * x + 1) = z := h.2.2
    rw [← this]
    exact List.mem_cons_self
  | x, y :: q, u, z, h => List.mem_cons_of_mem _ (pw_last h.2.2)
/-- simple walks are listed -/
theorem pw_gW {a : Int → Int} {z : Int} {es : List Int} : ∀ {p : List Int} {T : Int → Bool} {v : Int}, p ≠ [] → pw a es v p z → (hds a p).Nodup → (∀ x ∈ hds a p, x = z ∨ T x = false) → gW a z es T v p
  | [], _, _, h, _, _, _ => absurd rfl h
  | e :: q, T, v, _, h, hn, hT => by
    obtain ⟨h1, h2, h3⟩ := h
    refine ⟨h1, h2, ?_⟩
    have hn2 : (a (7 * e + 1) :: hds a q).Nodup := hn
    obtain ⟨n1, n2⟩ := List.nodup_cons.mp hn2
    by_cases hz : a (7 * e + 1) = z
    · rw [if_pos hz]
      match q, h3, n1 with
      | [], _, _ => rfl
      | x :: q, h3, n1 =>
        exfalso
        refine n1 ?_
        rw [hz]
        exact pw_last h3
    · rw [if_neg hz]
      refine ⟨?_, ?_⟩
      · rcases hT _ (List.mem_cons_self (a := a (7 * e + 1)) (l := hds a q)) with r | r
        · exact absurd r hz
        · exact r
      · have hq : q ≠ [] := fun hq => by subst hq; exact hz h3
        refine pw_gW hq h3 n2 (fun x hx => ?_)
        rcases hT x (List.mem_cons_of_mem (a (7 * e + 1)) hx) with r | r
        · exact Or.inl r
        · refine Or.inr ?_
          show (T x || decide (x = a (7 * e + 1))) = false
          rw [r, Bool.false_or]
          exact decide_eq_false (fun hxe => n1 (hxe ▸ hx))
theorem hds_app (a : Int → Int) (p q : List Int) : hds a (p ++ q) = hds a p ++ hds a q := by simp [hds]
theorem hds_len (a : Int → Int) (p : List Int) : (hds a p).length = p.length := by simp [hds]
/-- the least of some numbers -/
theorem least_mem : ∀ (l : List Int), l ≠ [] → ∃ s ∈ l, ∀ x ∈ l, s ≤ x
  | [], h => absurd rfl h
  | x :: l, _ => by
    by_cases hl : l = []
    · subst hl
      exact ⟨x, List.mem_cons_self, fun y hy => by rw [List.mem_singleton.mp hy]; exact Int.le_refl _⟩
    · obtain ⟨s, h1, h2⟩ := least_mem l hl
      by_cases hx : x ≤ s
      · exact ⟨x, List.mem_cons_self, fun y hy => by
          rcases List.mem_cons.mp hy with q | q
          · rw [q]; exact Int.le_refl _
          · exact Int.le_trans hx (h2 y q)⟩
      · exact ⟨s, List.mem_cons_of_mem _ h1, fun y hy => by
          rcases List.mem_cons.mp hy with q | q
          · rw [q]; omega
          · exact h2 y q⟩
theorem gCs_mem {a : Int → Int} {es : List Int} {p : List Int} : p ∈ gCs a es ↔ ∃ s, (0 ≤ s ∧ s < 8) ∧ p ∈ gD a s es 8 (lowT s) s := by
  unfold gCs
  rw [List.mem_flatMap]
  constructor
  · rintro ⟨s, h1, h2⟩
    exact ⟨s, er_mem.mp h1, h2⟩
  · rintro ⟨s, h1, h2⟩
    exact ⟨s, er_mem.mpr h1, h2⟩
/-- a simple closed walk, turned, is listed -/
theorem turn {a : Int → Int} {es : List Int} (hr : nR a es) {p : List Int} {u : Int} (h : pw a es u p u) (hp : p ≠ []) (hn : (hds a p).Nodup) : ∃ p1 p2, p = p1 ++ p2 ∧ p2 ++ p1 ∈ gCs a es := by
  have hh := hds_r hr (pw_mem h)
  obtain ⟨s, hs, hsl⟩ := least_mem (hds a p) (fun q => hp (by
    have := congrArg List.length q
    rw [hds_len] at this
    exact List.length_eq_zero_iff.mp this))
  obtain ⟨p1, p2, e1, h1, h2⟩ := pw_at h (List.mem_cons_of_mem u hs)
  refine ⟨p1, p2, e1, ?_⟩
  have hs8 := hh s hs
  have hperm : ∀ x, x ∈ hds a (p2 ++ p1) ↔ x ∈ hds a p := fun x => by
    rw [e1, hds_app, hds_app, List.mem_append, List.mem_append]
    exact Or.comm
  have hn2 : (hds a (p2 ++ p1)).Nodup := by
    rw [e1, hds_app] at hn
    rw [hds_app]
    exact (List.perm_append_comm.nodup_iff).mp hn
  have hw := pw_app h2 h1
  have hne : p2 ++ p1 ≠ [] := fun q => hp (by
    have := congrArg List.length q
    rw [e1]
    apply List.length_eq_zero_iff.mp
    simp only [List.length_append, List.length_nil] at this ⊢
    omega)
  refine gCs_mem.mpr ⟨s, by omega, (gD_iff 8).mpr ⟨pw_gW hne hw hn2 (fun x hx => ?_), ?_⟩⟩
  · have h3 := hsl x ((hperm x).mp hx)
    by_cases q : x = s
    · exact Or.inl q
    · exact Or.inr (decide_eq_false (by omega))
  · have h4 := nodup_8 hn2 (fun v hv => hh v ((hperm v).mp hv))
    rw [hds_len] at h4
    exact h4
/-- no simple cycle is less than 0 -/
def NN (a c : Int → Int) (es : List Int) : Prop := ∀ p ∈ gCs a es, 0 ≤ cs c p
theorem closed_nn {a c : Int → Int} {es : List Int} (hr : nR a es) (hN : NN a c es) : ∀ (n : Nat) {p : List Int} {u : Int}, p.length ≤ n → pw a es u p u → 0 ≤ cs c p
  | 0, p, u, hl, _ => by
    have : p = [] := List.length_eq_zero_iff.mp (by omega)
    rw [this]
    exact Int.le_refl _
  | n + 1, [], u, _, _ => Int.le_refl _
  | n + 1, e :: q, u, hl, h => by
    rcases pw_dup h.2.2 with hn | ⟨p1, p2, p3, x, e1, hp2, h1, h2, h3⟩
    · obtain ⟨p1, p2, e1, h1⟩ := turn hr h (by simp) hn
      have h2 := hN _ h1
      rw [e1, cs_app]
      rw [cs_app] at h2
      omega
    · rw [List.length_cons, e1, List.length_append, List.length_append] at hl
      have hl2 := List.length_pos_iff.mpr hp2
      have i1 := closed_nn hr hN n (p := p2) (by omega) h2
      have i2 := closed_nn hr hN n (p := e :: (p1 ++ p3)) (u := u) (by rw [List.length_cons, List.length_append]; omega) ⟨h.1, h.2.1, pw_app h1 h3⟩
      rw [cs_cons, e1, cs_app, cs_app]
      rw [cs_cons, cs_app] at i2
      omega
/-- a simple walk is as good as any -/
theorem simple_le {a c : Int → Int} {es : List Int} (hr : nR a es) (hN : NN a c es) : ∀ (n : Nat) {p : List Int} {u v : Int}, p.length ≤ n → pw a es u p v → ∃ q, pw a es u q v ∧ (u :: hds a q).Nodup ∧ cs c q ≤ cs c p ∧ q.length ≤ p.length
  | 0, p, u, v, hl, h => by
    have : p = [] := List.length_eq_zero_iff.mp (by omega)
    subst this
    exact ⟨[], h, by simp [hds], Int.le_refl _, Nat.le_refl _⟩
  | n + 1, p, u, v, hl, h => by
    rcases pw_dup h with hn | ⟨p1, p2, p3, x, e1, hp2, h1, h2, h3⟩
    · exact ⟨p, h, hn, Int.le_refl _, Nat.le_refl _⟩
    · have hl2 := List.length_pos_iff.mpr hp2
      have hl3 := hl
      rw [e1, List.length_append, List.length_append] at hl
      obtain ⟨q, i1, i2, i3, i4⟩ := simple_le hr hN n (p := p1 ++ p3) (by rw [List.length_append]; omega) (pw_app h1 h3)
      have i5 := closed_nn hr hN p2.length (Nat.le_refl _) h2
      refine ⟨q, i1, i2, ?_, ?_⟩
      · rw [e1, cs_app, cs_app]
        rw [cs_app] at i3
        omega
      · rw [e1, List.length_append, List.length_append]
        rw [List.length_append] at i4
        omega
theorem simple_7 {a : Int → Int} {es : List Int} (hr : nR a es) {q : List Int} {u v : Int} (h : pw a es u q v) (hn : (u :: hds a q).Nodup) (hu : 0 ≤ u ∧ u ≤ 7) : q.length ≤ 7 := by
  have h1 := nodup_8 hn (fun x hx => by
    rcases List.mem_cons.mp hx with q | q
    · rw [q]; exact hu
    · exact hds_r hr (pw_mem h) x q)
  rw [List.length_cons, hds_len] at h1
  omega
