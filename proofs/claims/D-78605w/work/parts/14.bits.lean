/-! BITS of small sets -/
theorem zI_nat (n : Nat) : zI (n : Int) = nI n := by
  show Int32.ofInt _ = Int32.ofNat _
  apply Int32.toBitVec_inj.mp
  simp [Int32.ofNat, Int32.ofInt]
theorem nI_bv (n : Nat) : (nI n).toBitVec = BitVec.ofNat 32 n := rfl
theorem nI_and (a b : Nat) : nI a &&& nI b = nI (a &&& b) := by
  apply Int32.toBitVec_inj.mp
  rw [Int32.toBitVec_and, nI_bv, nI_bv, nI_bv]
  apply BitVec.eq_of_toNat_eq
  simp [BitVec.toNat_and, BitVec.toNat_ofNat, Nat.and_mod_two_pow]
theorem nI_or (a b : Nat) : nI a ||| nI b = nI (a ||| b) := by
  apply Int32.toBitVec_inj.mp
  rw [Int32.toBitVec_or, nI_bv, nI_bv, nI_bv]
  apply BitVec.eq_of_toNat_eq
  simp [BitVec.toNat_or, BitVec.toNat_ofNat, Nat.or_mod_two_pow]
theorem cnt31 : ∀ v : Nat, v < 32 → ((zI (v : Int) &&& 31).toBitVec.smod 32).toNat = v := by decide +kernel
theorem zshr {M v : Nat} (hM : M < 2 ^ 31) (hv : v < 32) : zI (M : Int) >>> (zI (v : Int) &&& 31) = zI ((M / 2 ^ v : Nat) : Int) := by
  rw [zI_nat M, zI_nat (M / 2 ^ v)]
  exact pk_shrN hM _ v (cnt31 v hv)
theorem zand1 (M : Nat) : zI (M : Int) &&& zI 1 = zI ((M % 2 : Nat) : Int) := by
  rw [zI_nat M, zI_nat (M % 2), show zI 1 = nI 1 from rfl, nI_and, Nat.and_one_is_mod]
theorem zshl1 {v : Nat} (hv : v < 31) : zI 1 <<< (zI (v : Int) &&& 31) = zI ((2 ^ v : Nat) : Int) := by
  rw [zI_nat (2 ^ v), show zI 1 = nI 1 from rfl]
  have h := pk_shlN (n := 1) (zI (v : Int) &&& 31) v (cnt31 v (by omega)) (by
    rw [Nat.one_mul]
    exact Nat.pow_lt_pow_right (by omega) (by omega))
  rw [h, Nat.one_mul]
theorem zor (a b : Nat) : zI (a : Int) ||| zI (b : Int) = zI ((a ||| b : Nat) : Int) := by
  rw [zI_nat a, zI_nat b, zI_nat (a ||| b), nI_or]
/-- a bit is taken out -/
def clr (M v : Nat) : Nat := if M.testBit v = true then M - 2 ^ v else M
theorem zclr : ∀ M : Nat, M < 256 → ∀ v : Nat, v < 8 → zI (M : Int) &&& (zI ((2 ^ v : Nat) : Int) ^^^ zI (-1)) = zI ((clr M v : Nat) : Int) := by decide +kernel
theorem clr_bit : ∀ M : Nat, M < 256 → ∀ v : Nat, v < 8 → (clr M v < 256 ∧ ∀ w, w < 8 → (clr M v).testBit w = (M.testBit w && decide (w ≠ v))) := by decide +kernel
theorem or_bit {M v : Nat} (hM : M < 256) (hv : v < 8) : (M ||| 2 ^ v) < 256 ∧ ∀ w, (M ||| 2 ^ v).testBit w = (M.testBit w || decide (w = v)) := by
  refine ⟨?_, fun w => ?_⟩
  · have h : 2 ^ v < 2 ^ 8 := Nat.pow_lt_pow_right (by omega) hv
    exact Nat.or_lt_two_pow (n := 8) hM h
  · rw [Nat.testBit_or, Nat.testBit_two_pow]
    congr 1
    simp [eq_comm]
/-- the number t has the set T of nodes in its bits -/
def gM (t : Int) (T : Int → Bool) : Prop := ∃ M : Nat, M < 256 ∧ t = (M : Int) ∧ ∀ v : Nat, v < 8 → T (v : Int) = M.testBit v
theorem bit_div (M v : Nat) : M.testBit v = decide (M / 2 ^ v % 2 = 1) := Nat.testBit_eq_decide_div_mod_eq
/-- (t >> v) & 1 -/
theorem gM_test {t v : Int} {T : Int → Bool} (h : gM t T) (h0 : 0 ≤ v) (h8 : v < 8) : ∃ M : Nat, M < 2 ^ 31 ∧ t = (M : Int) ∧ zI t >>> (zI v &&& 31) = zI ((M / 2 ^ v.toNat : Nat) : Int) ∧ (M / 2 ^ v.toNat % 2 : Nat) = (if T v = true then 1 else 0) := by
  obtain ⟨M, hM, rfl, hb⟩ := h
  obtain ⟨n, rfl⟩ : ∃ n : Nat, v = n := ⟨v.toNat, by omega⟩
  refine ⟨M, by omega, rfl, zshr (by omega) (by omega), ?_⟩
  have h1 := hb n (by omega)
  rw [bit_div] at h1
  rw [Int.toNat_natCast, h1]
  have h2 := Nat.mod_lt (M / 2 ^ n) (show 0 < 2 by omega)
  by_cases e : M / 2 ^ n % 2 = 1
  · rw [if_pos (by simpa using e)]; exact e
  · rw [if_neg (by simpa using e)]; omega
theorem gM_push {t v : Int} {T : Int → Bool} (h : gM t T) (h0 : 0 ≤ v) (h8 : v < 8) : ∃ t' : Int, zI t ||| zI ((2 ^ v.toNat : Nat) : Int) = zI t' ∧ gM t' (gtk T v) ∧ 0 ≤ t' ∧ t' ≤ 255 := by
  obtain ⟨M, hM, rfl, hb⟩ := h
  obtain ⟨n, rfl⟩ : ∃ n : Nat, v = n := ⟨v.toNat, by omega⟩
  obtain ⟨h1, h2⟩ := or_bit hM (show n < 8 by omega)
  refine ⟨((M ||| 2 ^ n : Nat) : Int), zor _ _, ⟨_, h1, rfl, fun w hw => ?_⟩, by omega, by omega⟩
  rw [h2, gtk, hb w hw]
  congr 1
  simp only [Int.natCast_inj]
theorem gM_pop {t v : Int} {T : Int → Bool} (h : gM t (gtk T v)) (h0 : 0 ≤ v) (h8 : v < 8) (hT : T v = false) : ∃ t' : Int, zI t &&& (zI ((2 ^ v.toNat : Nat) : Int) ^^^ zI (-1)) = zI t' ∧ gM t' T ∧ 0 ≤ t' ∧ t' ≤ 255 := by
  obtain ⟨M, hM, rfl, hb⟩ := h
  obtain ⟨n, rfl⟩ : ∃ n : Nat, v = n := ⟨v.toNat, by omega⟩
  obtain ⟨h1, h2⟩ := clr_bit M hM n (by omega)
  refine ⟨((clr M n : Nat) : Int), zclr M hM n (by omega), ⟨_, h1, rfl, fun w hw => ?_⟩, by omega, by omega⟩
  rw [h2 w hw, ← hb w hw]
  by_cases e : w = n
  · subst e; simp [hT]
  · have : ¬ (w : Int) = n := by omega
    simp [gtk, e, this]
theorem gM_r {t : Int} {T : Int → Bool} (h : gM t T) : 0 ≤ t ∧ t ≤ 255 := by
  obtain ⟨M, hM, rfl, -⟩ := h
  omega
theorem gM_keep (t : Int) (h : 0 ≤ t ∧ t ≤ 255) : zI t &&& zI (-1) = zI t := by
  obtain ⟨n, rfl⟩ : ∃ n : Nat, t = n := ⟨t.toNat, by omega⟩
  have : ∀ n, n < 256 → zI ((n : Nat) : Int) &&& zI (-1) = zI (n : Int) := by decide +kernel
  exact this n (by omega)
theorem gM_low {s : Int} (h0 : 0 ≤ s) (h8 : s < 8) : gM ((2 ^ (s + 1).toNat - 1 : Nat) : Int) (fun v => decide (v ≤ s)) := by
  obtain ⟨n, rfl⟩ : ∃ n : Nat, s = n := ⟨s.toNat, by omega⟩
  refine ⟨2 ^ (n + 1) - 1, ?_, by rw [show ((n : Int) + 1).toNat = n + 1 by omega], fun v hv => ?_⟩
  · have : 2 ^ (n + 1) ≤ 2 ^ 8 := Nat.pow_le_pow_right (by omega) (by omega)
    omega
  · rw [Nat.testBit_two_pow_sub_one]
    simp only [decide_eq_decide]
    omega
theorem gM_one {s : Int} (h0 : 0 ≤ s) (h8 : s < 8) : gM ((2 ^ s.toNat : Nat) : Int) (fun v => decide (v = s)) := by
  obtain ⟨n, rfl⟩ : ∃ n : Nat, s = n := ⟨s.toNat, by omega⟩
  refine ⟨2 ^ n, ?_, by rw [Int.toNat_natCast], fun v hv => ?_⟩
  · have : 2 ^ n < 2 ^ 8 := Nat.pow_lt_pow_right (by omega) (by omega)
    omega
  · rw [Nat.testBit_two_pow]
    simp only [decide_eq_decide]
    omega
theorem zshlI {v : Int} (h0 : 0 ≤ v) (h8 : v < 31) : zI 1 <<< (zI v &&& 31) = zI ((2 ^ v.toNat : Nat) : Int) := by
  obtain ⟨n, rfl⟩ : ∃ n : Nat, v = n := ⟨v.toNat, by omega⟩
  rw [Int.toNat_natCast]
  exact zshl1 (by omega)
theorem zor0 (t : Int) (h : 0 ≤ t) : zI t ||| zI 0 = zI t := by
  obtain ⟨n, rfl⟩ : ∃ n : Nat, t = n := ⟨t.toNat, by omega⟩
  rw [show zI 0 = zI ((0 : Nat) : Int) from rfl, zor, Nat.or_zero]
