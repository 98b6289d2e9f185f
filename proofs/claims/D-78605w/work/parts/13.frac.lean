/-! FRACTIONS: whole parts, comparing by whole parts, greatest common divisors: plain law, and two rows of longs -/
theorem zJ_div {a b : Int} (ha : -9223372036854775808 ≤ a ∧ a ≤ 9223372036854775807) (hb : -9223372036854775808 ≤ b ∧ b ≤ 9223372036854775807) : zJ a / zJ b = zJ (a.tdiv b) := (Int64.ofInt_tdiv ha.1 ha.2 hb.1 hb.2).symm
theorem zJ_rem {a b : Int} (ha : -9223372036854775808 ≤ a ∧ a ≤ 9223372036854775807) (hb : -9223372036854775808 ≤ b ∧ b ≤ 9223372036854775807) : zJ a - zJ a / zJ b * zJ b = zJ (a.tmod b) := by
  rw [zJ_div ha hb, zJ_mul, zJ_sub, Int.tmod_def, Int.mul_comm]
theorem zJ_ne0 {b : Int} (hb : -9223372036854775808 ≤ b ∧ b ≤ 9223372036854775807) (h : b ≠ 0) : ¬ zJ b = 0 := by
  intro q
  rw [show (0 : Int64) = zJ 0 from rfl, zJ_eq hb (by decide)] at q
  exact h q
theorem whole_eq {a b : Int} (hb : 0 < b) : (if a.tmod b < 0 then a.tdiv b - 1 else a.tdiv b) = a / b := by
  have h1 : a = b * a.tdiv b + a.tmod b := by
    have := Int.mul_tdiv_add_tmod a b
    omega
  have h2 : a.tmod b < b := Int.tmod_lt_of_pos a hb
  have h3 : -b < a.tmod b := by
    have := Int.lt_tmod_of_pos a hb
    omega
  split
  · have := (Int.ediv_emod_unique (a := a) (b := b) (r := a.tmod b + b) (q := a.tdiv b - 1) hb).mpr ⟨by rw [Int.mul_sub]; omega, by omega, by omega⟩
    exact this.1.symm
  · have := (Int.ediv_emod_unique (a := a) (b := b) (r := a.tmod b) (q := a.tdiv b) hb).mpr ⟨by omega, by omega, by omega⟩
    exact this.1.symm
/-- the sign -/
def gsg (x : Int) : Int := if x < 0 then -1 else if x = 0 then 0 else 1
theorem gsg_lt {x : Int} (h : x < 0) : gsg x = -1 := by rw [gsg, if_pos h]
theorem gsg_gt {x : Int} (h : 0 < x) : gsg x = 1 := by rw [gsg, if_neg (by omega), if_neg (by omega)]
theorem gsg_0 : gsg 0 = 0 := by decide
theorem gsg_neg (x : Int) : gsg (-x) = -gsg x := by
  rcases Int.lt_trichotomy x 0 with h | h | h
  · rw [gsg_lt h, gsg_gt (by omega)]; rfl
  · subst h; rfl
  · rw [gsg_gt h, gsg_lt (by omega)]
theorem gsg_iff (x : Int) : (gsg x < 0 ↔ x < 0) ∧ (gsg x = 0 ↔ x = 0) ∧ (0 < gsg x ↔ 0 < x) := by unfold gsg; split <;> (try split) <;> omega
theorem gsg_r (x : Int) : -1 ≤ gsg x ∧ gsg x ≤ 1 := by unfold gsg; split <;> (try split) <;> omega
theorem fl_le {p q : Int} (hq : 0 < q) : (p / q) * q ≤ p := Int.ediv_mul_le p (by omega)
theorem fl_lt {p q : Int} (hq : 0 < q) : p < (p / q + 1) * q := Int.lt_ediv_add_one_mul_self p hq
theorem cmp_lt {p q r s : Int} (hq : 0 < q) (hs : 0 < s) (h : p / q < r / s) : p * s - r * q < 0 := by
  have h1 := fl_lt (p := p) hq
  have h2 := fl_le (p := r) hs
  have h3 : (p / q + 1) * q ≤ (r / s) * q := Int.mul_le_mul_of_nonneg_right (by omega) (by omega)
  have h4 : p * s < (r / s) * q * s := Int.mul_lt_mul_of_pos_right (by omega) hs
  have h5 : (r / s) * s * q ≤ r * q := Int.mul_le_mul_of_nonneg_right h2 (by omega)
  have h6 : (r / s) * q * s = (r / s) * s * q := by rw [Int.mul_assoc, Int.mul_comm q s, ← Int.mul_assoc]
  omega
theorem cmp_ne {p q r s : Int} (hq : 0 < q) (hs : 0 < s) (h : ¬ p / q = r / s) : gsg (p * s - r * q) = if p / q < r / s then -1 else 1 := by
  split
  · exact gsg_lt (cmp_lt hq hs (by assumption))
  · have h1 := cmp_lt (p := r) (q := s) (r := p) (s := q) hs hq (by omega)
    exact gsg_gt (by omega)
theorem cmp_eq {p q r s : Int} (h : p / q = r / s) : p * s - r * q = (p - (p / q) * q) * s - (r - (r / s) * s) * q := by
  rw [← h, Int.sub_mul, Int.sub_mul]
  have : (p / q) * q * s = (p / q) * s * q := by rw [Int.mul_assoc, Int.mul_comm q s, ← Int.mul_assoc]
  omega
theorem fl_rest {p q : Int} (hq : 0 < q) : 0 ≤ p - (p / q) * q ∧ p - (p / q) * q < q := by
  have h1 := fl_le (p := p) hq
  have h2 := fl_lt (p := p) hq
  rw [Int.add_mul] at h2
  omega
theorem gcd_step (P Q : Nat) : Nat.gcd P Q = Nat.gcd Q (P % Q) := by
  rw [Nat.gcd_comm P Q, Nat.gcd_rec Q P, Nat.gcd_comm]
section ZROW2
variable {X : zX} {R : Room} {E : zE} {μ : zM} {ce sl : Nat} {Q : State → Prop} {pc : Nat} {lv : List (Option Value)} {st : List Value} {cc : ByteArray} {own : String} {ret : Option FieldType} {nL : Nat}
theorem z_ldivt (hX : zOK X E cc own ret nL) {a b : Int} (ha : -9223372036854775808 ≤ a ∧ a ≤ 9223372036854775807) (hb : -9223372036854775808 ≤ b ∧ b ≤ 9223372036854775807) (h0 : b ≠ 0) (d : decode cc pc = .ok (.ldiv, 1)) (k : zW X R E μ ce sl Q (pc + 1) lv (.long (zJ (a.tdiv b)) :: st)) : zW X R E μ ce sl Q pc lv (.long (zJ b) :: .long (zJ a) :: st) := z_ldiv hX (zJ_ne0 hb h0) (zJ_div ha hb) d k
theorem z_lremt (hX : zOK X E cc own ret nL) {a b : Int} (ha : -9223372036854775808 ≤ a ∧ a ≤ 9223372036854775807) (hb : -9223372036854775808 ≤ b ∧ b ≤ 9223372036854775807) (h0 : b ≠ 0) (d : decode cc pc = .ok (.lrem, 1)) (k : zW X R E μ ce sl Q (pc + 1) lv (.long (zJ (a.tmod b)) :: st)) : zW X R E μ ce sl Q pc lv (.long (zJ b) :: .long (zJ a) :: st) := z_lrem hX (zJ_ne0 hb h0) (zJ_rem ha hb) d k
end ZROW2
