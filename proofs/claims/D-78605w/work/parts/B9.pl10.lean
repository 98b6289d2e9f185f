/-! KARP's theorem: the least mean: plain law -/
theorem kT8_none {a : Int → Int} (hg : gV a) (h : gC a = []) {v : Int} (v0 : 0 ≤ v) (v7 : v ≤ 7) : ¬ kT a 8 v < 1125899906842624 := fun hlt => by
  obtain ⟨u, p, hu, hp, hl, -⟩ := kT_WA hg 8 v v0 v7 hlt
  have hN : NN a (fun _ => -1) (er 0 (a 112)) := fun q hq => by
    rw [gCs_all, h] at hq
    cases hq
  rcases pw_dup hp with hn | ⟨p1, p2, p3, x, e1, hp2, h1, h2, h3⟩
  · have := simple_7 (nR_er hg) hp hn hu
    omega
  · have h4 := closed_nn (nR_er hg) hN p2.length (Nat.le_refl _) h2
    have h5 : ∀ q : List Int, cs (fun _ => -1) q = -(q.length : Int) := fun q => by
      induction q with
      | nil => rfl
      | cons e q ih => rw [cs_cons, ih, List.length_cons]; omega
    have h6 := List.length_pos_iff.mpr hp2
    rw [h5] at h4
    omega
theorem kmG_none {a : Int → Int} (hg : gV a) (h : gC a = []) : kmG a = none := by
  have hI := kmG_I a
  cases hk : kmG a with
  | none => rfl
  | some u =>
    rw [hk] at hI
    obtain ⟨⟨v, hv, hu⟩, _⟩ := hI
    have := er_mem.mp hv
    unfold kIt at hu
    rw [if_neg (kT8_none hg h (by omega) (by omega))] at hu
    cases hu
/-- Karp's least mean is the least of the cycles -/
theorem kmG_some {a : Int → Int} (hg : gV a) {b : Int × Int × List Int} (hb : gBest 0 a = some b) : ∃ u, kmG a = some u ∧ 0 < u.2 ∧ 0 < b.2.1 ∧ u.1 * b.2.1 = b.1 * u.2 := by
  have hk0 : (0 : Int) = 0 ∨ (0 : Int) = 1 := Or.inl rfl
  have hI := bI_all (U := esum a 2) (D := vDn 0 a) (gC a) (vDn_pos hg hk0)
  rw [← gBest_f 0 a hk0, hb] at hI
  obtain ⟨h1, h2, h3, h4, -⟩ := hI
  have hb0 : 0 < b.2.1 := by rw [h2]; exact vDn_pos hg hk0 _ h3
  have hcs : ∀ p, cs (csF a b.1 b.2.1 false) p = b.2.1 * esum a 2 p - b.1 * vDn 0 a p := fun p => by
    rw [cs_csF, if_neg (by decide)]
    rfl
  have hN : NN a (csF a b.1 b.2.1 false) (er 0 (a 112)) := fun p hp => by
    have := h4 p hp
    rw [hcs, Int.mul_comm b.2.1]
    omega
  have hz : cs (csF a b.1 b.2.1 false) b.2.2 = 0 := by
    rw [hcs, ← h1, ← h2, Int.mul_comm]
    omega
  have hlo : ∀ v c, v ∈ er 0 8 → kIt a v = some c → b.1 * c.2 ≤ c.1 * b.2.1 := fun v c hv hc => by
    have hv8 := er_mem.mp hv
    have hc2 := kIt_pos hc
    unfold kIt at hc
    split at hc
    · next hlt =>
      have hG := gmF_I (fun k => kT a k.toNat) v
      rw [hc] at hG
      obtain ⟨k, k1, k2, k3⟩ := kar_1 hg hb0 hN (by omega) (by omega) hlt
      have h5 : (kT a 8 v - kT a ((k : Int)).toNat v) * c.2 ≤ c.1 * (8 - (k : Int)) := hG.2 (k : Int) (er_mem.mpr ⟨by omega, by omega⟩) (show kT a ((k : Int)).toNat v < _ by rw [Int.toNat_natCast]; exact k2)
      rw [Int.toNat_natCast] at h5
      rw [Int.mul_comm b.2.1] at k3
      exact cross_le (u := kT a 8 v - kT a k v) (d := 8 - (k : Int)) (ux := b.1) (dx := b.2.1) (uq := c.1) (dq := c.2) (by omega) hb0 hc2 h5 k3
    · cases hc
  obtain ⟨v, hv8, hlt, hall⟩ := kar_2 hg hb0 hN h3 hz
  have hGv := gmF_I (fun k => kT a k.toNat) v
  obtain ⟨k, k1, k2, -⟩ := kar_1 hg hb0 hN hv8.1 hv8.2 hlt
  cases hc : kIt a v with
  | none =>
    unfold kIt at hc
    rw [if_pos hlt] at hc
    rw [hc] at hGv
    exact absurd (show kT a ((k : Int)).toNat v < _ by rw [Int.toNat_natCast]; exact k2) (hGv (k : Int) (er_mem.mpr ⟨by omega, by omega⟩))
  | some c =>
    have hc2 := kIt_pos hc
    have hcc := hc
    unfold kIt at hc
    rw [if_pos hlt] at hc
    rw [hc] at hGv
    obtain ⟨⟨j, j1, j2, j3⟩, -⟩ := hGv
    have hj := er_mem.mp j1
    have h6 := hall j.toNat (by omega) j2
    have hup : c.1 * b.2.1 ≤ b.1 * c.2 := by
      rw [j3]
      show (kT a 8 v - kT a j.toNat v) * b.2.1 ≤ b.1 * (8 - j)
      rw [Int.mul_comm _ b.2.1]
      rw [show ((j.toNat : Nat) : Int) = j by omega] at h6
      exact h6
    have hK := kmG_I a
    cases hu : kmG a with
    | none =>
      rw [hu] at hK
      have := hK v (er_mem.mpr (by omega))
      rw [hcc] at this
      cases this
    | some u =>
      rw [hu] at hK
      obtain ⟨⟨v1, v2, v3⟩, h7⟩ := hK
      have hu2 := kIt_pos v3
      have h8 := hlo v1 u v2 v3
      have h9 := h7 v (er_mem.mpr (by omega)) c hcc
      have h10 := cross_le (u := c.1) (d := c.2) (ux := u.1) (dx := u.2) (uq := b.1) (dq := b.2.1) hc2 hu2 hb0 (by omega) (by omega)
      exact ⟨u, rfl, hu2, hb0, by omega⟩
