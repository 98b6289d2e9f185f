/-! KARP: bounds from both sides: plain law -/
theorem cs_kar {a : Int → Int} {n d : Int} (p : List Int) : cs (csF a n d false) p = d * cs (wF a) p - n * p.length := by
  rw [cs_csF, if_neg (by decide)]
  rfl
/-- at each node the greatest mean is at least the least of cycles -/
theorem kar_1 {a : Int → Int} (hg : gV a) {n d : Int} (hd : 0 < d) (hN : NN a (csF a n d false) (er 0 (a 112))) {v : Int} (v0 : 0 ≤ v) (v7 : v ≤ 7) (h8 : kT a 8 v < 1125899906842624) : ∃ k : Nat, k < 8 ∧ kT a k v < 1125899906842624 ∧ n * (8 - (k : Int)) ≤ d * (kT a 8 v - kT a k v) := by
  obtain ⟨u, p, hu, hp, hl, hf⟩ := kT_WA hg 8 v v0 v7 h8
  obtain ⟨q, q1, q2, q3, q4⟩ := simple_le (nR_er hg) hN p.length (Nat.le_refl _) hp
  have q5 := simple_7 (nR_er hg) q1 q2 hu
  have hT := kT_UB hg q.length (by omega) u q v hu q1 rfl
  have hb := cs_b q (fun x hx => wF_b hg x (pw_mem q1 x hx))
  refine ⟨q.length, by omega, by omega, ?_⟩
  rw [cs_kar, cs_kar, hl, ← hf] at q3
  have h1 : d * kT a q.length v ≤ d * cs (wF a) q := Int.mul_le_mul_of_nonneg_left hT (Int.le_of_lt hd)
  rw [Int.mul_sub, Int.mul_sub]
  have e1 : n * ((8 : Nat) : Int) = n * 8 := rfl
  omega
/-- a node of a cycle of cost 0 -/
def cyZ (a c : Int → Int) (es : List Int) (v : Int) : Prop := ∃ e p, pw a es v (e :: p) v ∧ cs c (e :: p) = 0
theorem cyZ_go {a c F : Int → Int} {es : List Int} (hF : ∀ e ∈ es, F (a (7 * e + 1)) ≤ F (a (7 * e)) + c e) : ∀ (n : Nat) (v : Int), cyZ a c es v → ∃ r w, pw a es v r w ∧ r.length = n ∧ F w = F v + cs c r ∧ cyZ a c es w
  | 0, v, h => ⟨[], v, rfl, rfl, by rw [cs_nil]; omega, h⟩
  | n + 1, v, h => by
    obtain ⟨e, p, hp, hz⟩ := h
    have h1 : pw a es (a (7 * e + 1)) p v := hp.2.2
    have h2 := pot_walk hF h1
    have h3 := hF e hp.1
    rw [hp.2.1] at h3
    rw [cs_cons] at hz
    have hc : cyZ a c es (a (7 * e + 1)) := by
      have h4 : pw a es (a (7 * e + 1)) (p ++ [e]) (a (7 * e + 1)) := pw_app h1 ⟨hp.1, hp.2.1, rfl⟩
      have h5 : cs c (p ++ [e]) = 0 := by rw [cs_app, cs_cons, cs_nil]; omega
      match p, h4, h5 with
      | [], h4, h5 => exact ⟨e, [], h4, h5⟩
      | x :: p, h4, h5 => exact ⟨x, p ++ [e], h4, h5⟩
    obtain ⟨r, w, r1, r2, r3, r4⟩ := cyZ_go hF n _ hc
    exact ⟨e :: r, w, ⟨hp.1, hp.2.1, r1⟩, by rw [List.length_cons, r2], by rw [cs_cons, r3]; omega, r4⟩
theorem pw_to {a : Int → Int} {es : List Int} (hr : nR a es) : ∀ {p : List Int} {u v : Int}, pw a es u p v → (0 ≤ u ∧ u ≤ 7) → 0 ≤ v ∧ v ≤ 7
  | [], u, v, h, hu => by
    have h : u = v := h
    rw [← h]; exact hu
  | e :: p, u, v, h, _ => pw_to hr h.2.2 (hr e h.1).2
theorem rxG_le {a c : Int → Int} {es : List Int} : ∀ (k : Nat) (f : Int → Int) (v : Int), (rxG a c es k f).1 v ≤ f v
  | 0, _, _ => Int.le_refl _
  | k + 1, f, v => by
    rw [rxG]
    have h := rxL_le es (f, false) (a := a) (c := c) v
    split
    · exact Int.le_trans (rxG_le k _ v) h
    · exact h
theorem rxG_WA {a c : Int → Int} {es : List Int} (hr : nR a es) : ∀ (k : Nat) (f : Int → Int), WA a c es f → WA a c es (rxG a c es k f).1
  | 0, _, h => h
  | k + 1, f, h => by
    rw [rxG]
    have h1 := rxL_WA hr es (f, false) (fun e he => he) h
    split
    · exact rxG_WA hr k _ h1
    · exact h1
/-- at some node it is no more -/
theorem kar_2 {a : Int → Int} (hg : gV a) {n d : Int} (hd : 0 < d) (hN : NN a (csF a n d false) (er 0 (a 112))) {p : List Int} (hp : p ∈ gC a) (hz : cs (csF a n d false) p = 0) : ∃ v, (0 ≤ v ∧ v ≤ 7) ∧ kT a 8 v < 1125899906842624 ∧ ∀ k : Nat, k < 8 → kT a k v < 1125899906842624 → d * (kT a 8 v - kT a k v) ≤ n * (8 - (k : Int)) := by
  have hset := rxG_settles (nR_er hg) hN 9 0 _ (WA_0 _ _ _) (UB_0 _ _ _) (by omega) (by omega)
  have hF := rxG_pot 9 _ hset
  have hW := rxG_WA (nR_er hg) 9 _ (WA_0 a (csF a n d false) (er 0 (a 112)))
  have hle := fun v => rxG_le (a := a) (c := csF a n d false) (es := er 0 (a 112)) 9 (fun _ => 0) v
  generalize (rxG a (csF a n d false) (er 0 (a 112)) 9 (fun _ => 0)).1 = F at *
  rw [← gCs_all] at hp
  obtain ⟨s, hs, hdd⟩ := gCs_mem.mp hp
  have hw := gW_pw ((gD_iff 8).mp hdd).1
  have hcy : cyZ a (csF a n d false) (er 0 (a 112)) s := by
    match p, hw, hz, hdd with
    | [], _, _, hdd => exact (((gD_iff 8).mp hdd).1).elim
    | e :: p, hw, hz, _ => exact ⟨e, p, hw, hz⟩
  obtain ⟨u, q, hu, hq, hf⟩ := hW s (by omega) (by omega)
  obtain ⟨q', q1, q2, q3, q4⟩ := simple_le (nR_er hg) hN q.length (Nat.le_refl _) hq
  have q5 := simple_7 (nR_er hg) q1 q2 hu
  have q6 := pot_walk hF q1
  have q7 := hle u
  obtain ⟨r, w, r1, r2, r3, -⟩ := cyZ_go hF (8 - q'.length) s hcy
  have hall := pw_app q1 r1
  have hw8 := pw_to (nR_er hg) hall hu
  have hlen : (q' ++ r).length = 8 := by rw [List.length_append]; omega
  have hT := kT_UB hg 8 (by omega) u (q' ++ r) w hu hall hlen
  have hb := cs_b (q' ++ r) (fun x hx => wF_b hg x (pw_mem hall x hx))
  rw [hlen] at hb
  have h8 : d * kT a 8 w - n * 8 ≤ F w := by
    have h1 : cs (csF a n d false) (q' ++ r) = d * cs (wF a) (q' ++ r) - n * 8 := by rw [cs_kar, hlen]; rfl
    rw [cs_app] at h1
    have h2 : d * kT a 8 w ≤ d * cs (wF a) (q' ++ r) := Int.mul_le_mul_of_nonneg_left hT (Int.le_of_lt hd)
    omega
  refine ⟨w, hw8, by omega, fun k hk hk2 => ?_⟩
  obtain ⟨u2, p2, hu2, hp2, hl2, hf2⟩ := kT_WA hg k w hw8.1 hw8.2 hk2
  have h3 := pot_walk hF hp2
  have h4 := hle u2
  rw [cs_kar, hl2, ← hf2] at h3
  rw [Int.mul_sub, Int.mul_sub]
  omega
