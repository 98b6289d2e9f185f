/-! LEAST cycles: a fold over all, a fold over the best: plain law -/
theorem flatMap_filter {α β : Type} (P : α → Bool) (g : α → List β) : ∀ l : List α, (l.filter P).flatMap g = l.flatMap (fun e => if P e = true then g e else [])
  | [] => rfl
  | e :: l => by
    rw [List.filter_cons, List.flatMap_cons]
    split
    · rw [List.flatMap_cons, flatMap_filter P g l]
    · rw [flatMap_filter P g l, List.nil_append]
theorem filter_flatMap {α β : Type} (P : β → Bool) (g : α → List β) : ∀ l : List α, (l.flatMap g).filter P = l.flatMap (fun e => (g e).filter P)
  | [] => rfl
  | e :: l => by rw [List.flatMap_cons, List.filter_append, filter_flatMap P g l, List.flatMap_cons]
theorem gD_filter {a : Int → Int} {z : Int} {es : List Int} (P : Int → Bool) : ∀ (d : Nat) (T : Int → Bool) (v : Int), gD a z (es.filter P) d T v = (gD a z es d T v).filter (fun p => p.all P)
  | 0, _, _ => rfl
  | d + 1, T, v => by
    show (es.filter P).flatMap (gI a z (gD a z (es.filter P) d) T v) = (es.flatMap (gI a z (gD a z es d) T v)).filter _
    rw [flatMap_filter, filter_flatMap]
    congr 1
    funext e
    have ih : ∀ (T : Int → Bool) (v : Int), gD a z (es.filter P) d T v = (gD a z es d T v).filter (fun p => p.all P) := fun T v => gD_filter P d T v
    unfold gI
    by_cases hk : gok a z T v e = true
    · rw [if_pos hk, if_pos hk]
      by_cases hz : a (7 * e + 1) = z
      · rw [if_pos hz, if_pos hz]
        by_cases hp : P e = true
        · rw [if_pos hp]
          simp [hp]
        · rw [if_neg hp]
          simp [hp]
      · rw [if_neg hz, if_neg hz, ih]
        by_cases hp : P e = true
        · rw [if_pos hp, List.filter_map]
          congr 1
          congr 1
          funext q
          simp [hp]
        · rw [if_neg hp, List.filter_map]
          have : ((fun p : List Int => p.all P) ∘ fun x => e :: x) = fun _ => false := by
            funext q
            simp [hp]
          rw [this]
          simp
    · rw [if_neg hk, if_neg hk]
      simp
theorem gCs_filter {a : Int → Int} {es : List Int} (P : Int → Bool) : gCs a (es.filter P) = (gCs a es).filter (fun p => p.all P) := by
  unfold gCs
  rw [filter_flatMap]
  congr 1
  funext s
  exact gD_filter P 8 _ s
/-- fractions across -/
theorem cross_lt {u d ux dx uq dq : Int} (hd : 0 < d) (hdx : 0 < dx) (hdq : 0 < dq) (h1 : u * dq ≤ uq * d) (h2 : ux * d < u * dx) : ux * dq < uq * dx := by
  have e1 : ux * d * dq < u * dx * dq := Int.mul_lt_mul_of_pos_right h2 hdq
  have e2 : u * dq * dx ≤ uq * d * dx := Int.mul_le_mul_of_nonneg_right h1 (Int.le_of_lt hdx)
  have e3 : ux * dq * d < uq * dx * d := by
    rw [show ux * dq * d = ux * d * dq by rw [Int.mul_assoc, Int.mul_comm dq d, ← Int.mul_assoc], show uq * dx * d = uq * d * dx by rw [Int.mul_assoc, Int.mul_comm dx d, ← Int.mul_assoc]]
    rw [show u * dx * dq = u * dq * dx by rw [Int.mul_assoc, Int.mul_comm dx dq, ← Int.mul_assoc]] at e1
    omega
  exact Int.lt_of_mul_lt_mul_right e3 (Int.le_of_lt hd)
theorem cross_le {u d ux dx uq dq : Int} (hd : 0 < d) (hdx : 0 < dx) (hdq : 0 < dq) (h1 : u * dq ≤ uq * d) (h2 : ux * d ≤ u * dx) : ux * dq ≤ uq * dx := by
  have e1 : ux * d * dq ≤ u * dx * dq := Int.mul_le_mul_of_nonneg_right h2 (Int.le_of_lt hdq)
  have e2 : u * dq * dx ≤ uq * d * dx := Int.mul_le_mul_of_nonneg_right h1 (Int.le_of_lt hdx)
  have e3 : ux * dq * d ≤ uq * dx * d := by
    rw [show ux * dq * d = ux * d * dq by rw [Int.mul_assoc, Int.mul_comm dq d, ← Int.mul_assoc], show uq * dx * d = uq * d * dx by rw [Int.mul_assoc, Int.mul_comm dx d, ← Int.mul_assoc]]
    rw [show u * dx * dq = u * dq * dx by rw [Int.mul_assoc, Int.mul_comm dx dq, ← Int.mul_assoc]] at e1
    omega
  exact Int.le_of_mul_le_mul_right e3 hd
/-- equal fractions have the same lowest terms -/
theorem fr_same {n d p q : Int} (hd : 0 < d) (hq : 0 < q) (h : n * q = p * d) : frN n d = frN p q ∧ frD n d = frD p q := by
  have h1 := fr_scale (g := q) (n := n) (d := d) hq hd
  have h2 := fr_scale (g := d) (n := p) (d := q) hd hq
  rw [show q * n = d * p by rw [Int.mul_comm q n, h, Int.mul_comm], Int.mul_comm q d] at h1
  exact ⟨h1.1.symm.trans h2.1, h1.2.symm.trans h2.2⟩
