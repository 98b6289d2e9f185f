/-! X SIDE 1: ranges, the JDK's Math -/
set_option maxRecDepth 100000
theorem x_isIn (l : Launch) (E : zE) (μ : zM) {v lo hi : Int} (hv : lR v) (h1 : lR lo) (h2 : lR hi) : Met l yX0_isIn (ws_ yX0_isIn cX0_isIn 6 (some .boolean)) (zR 0 0 0) (va_Pc [.long (zJ v), .long (zJ lo), .long (zJ hi)] (zPre E μ)) (zQb E (fun r μ' => μ = μ' ∧ decide (lo ≤ v ∧ v ≤ hi) = r)) 0 0 (zA E) := by
  refine zmet (cc := cX0_isIn) [_, _, _, _, _, _] (by decide) (Nat.le_of_ble_eq_true rfl) rfl rfl ?_
  intro X hl hX hinit; subst hl
  have hX : zOK X _ cX0_isIn RX0 (some .boolean) 6 := hX
  refine z_lload_n hX rfl dX0_isIn_0 ?_
  refine z_lload_n hX rfl dX0_isIn_1 ?_
  refine z_lcmp_lt hX (by omega) (by omega) dX0_isIn_2 dX0_isIn_3 (tgt := 17) rfl (fun h_2 => ?_) (fun h_2 => ?_)
  · refine z_iconst hX dX0_isIn_17 ?_
    (try rw [← hQ])
    first | refine z_breturn hX true dX0_isIn_18 (by omega) (by omega) ?_ | refine z_breturn hX false dX0_isIn_18 (by omega) (by omega) ?_ | refine z_breturn hX _ dX0_isIn_18 (by omega) (by omega) ?_
    exact ⟨rfl, decide_eq_false (by omega)⟩
  · refine z_lload_n hX rfl dX0_isIn_6 ?_
    refine z_lload hX rfl dX0_isIn_7 ?_
    refine z_lcmp_gt hX (by omega) (by omega) dX0_isIn_9 dX0_isIn_10 (tgt := 17) rfl (fun h_9 => ?_) (fun h_9 => ?_)
    · refine z_iconst hX dX0_isIn_17 ?_
      (try rw [← hQ])
      first | refine z_breturn hX true dX0_isIn_18 (by omega) (by omega) ?_ | refine z_breturn hX false dX0_isIn_18 (by omega) (by omega) ?_ | refine z_breturn hX _ dX0_isIn_18 (by omega) (by omega) ?_
      exact ⟨rfl, decide_eq_false (by omega)⟩
    · refine z_iconst hX dX0_isIn_13 ?_
      refine z_goto hX (tgt := 18) dX0_isIn_14 rfl ?_
      (try rw [← hQ])
      first | refine z_breturn hX true dX0_isIn_18 (by omega) (by omega) ?_ | refine z_breturn hX false dX0_isIn_18 (by omega) (by omega) ?_ | refine z_breturn hX _ dX0_isIn_18 (by omega) (by omega) ?_
      exact ⟨rfl, decide_eq_true (by omega)⟩
theorem x_abs (l : Launch) (E : zE) (μ : zM) {v : Int} (hv : lR v) : Met l yJ7_abs (ws_ yJ7_abs cJ7_abs 2 (some .long)) (zR 0 0 0) (va_Pc [.long (zJ v)] (zPre E μ)) (zQl E (fun r μ' => μ = μ' ∧ (v.natAbs : Int) = r)) 0 0 (zA E) := by
  refine zmetJ (cc := cJ7_abs) [_, _] (by decide +kernel) (Nat.le_of_ble_eq_true rfl) rfl rfl ?_
  intro X hl hX hinit; subst hl
  have hX : zOK X _ cJ7_abs RJ7 (some .long) 2 := hX
  refine z_lload_n hX rfl dJ7_abs_0 ?_
  refine z_lconst hX (z := 0) (by decide) dJ7_abs_1 ?_
  refine z_lcmp_ge hX (by omega) (by omega) dJ7_abs_2 dJ7_abs_3 (tgt := 11) rfl (fun h_2 => ?_) (fun h_2 => ?_)
  · refine z_lload_n hX rfl dJ7_abs_11 ?_
    (try rw [← hQ])
    refine z_lreturn hX dJ7_abs_12 (by omega) (by omega) ?_
    exact ⟨rfl, by omega⟩
  · refine z_lload_n hX rfl dJ7_abs_6 ?_
    refine z_lneg hX dJ7_abs_7 ?_
    refine z_goto hX (tgt := 12) dJ7_abs_8 rfl ?_
    (try rw [← hQ])
    refine z_lreturn hX dJ7_abs_12 (by omega) (by omega) ?_
    exact ⟨rfl, by omega⟩
theorem x_minl (l : Launch) (E : zE) (μ : zM) {v w : Int} (hv : lR v) (hw : lR w) : Met l yJ7_min_2 (ws_ yJ7_min_2 cJ7_min_2 4 (some .long)) (zR 0 0 0) (va_Pc [.long (zJ v), .long (zJ w)] (zPre E μ)) (zQl E (fun r μ' => μ = μ' ∧ min v w = r)) 0 0 (zA E) := by
  refine zmetJ (cc := cJ7_min_2) [_, _, _, _] (by decide +kernel) (Nat.le_of_ble_eq_true rfl) rfl rfl ?_
  intro X hl hX hinit; subst hl
  have hX : zOK X _ cJ7_min_2 RJ7 (some .long) 4 := hX
  refine z_lload_n hX rfl dJ7_min_2_0 ?_
  refine z_lload_n hX rfl dJ7_min_2_1 ?_
  refine z_lcmp_gt hX (by omega) (by omega) dJ7_min_2_2 dJ7_min_2_3 (tgt := 10) rfl (fun h_2 => ?_) (fun h_2 => ?_)
  · refine z_lload_n hX rfl dJ7_min_2_10 ?_
    (try rw [← hQ])
    refine z_lreturn hX dJ7_min_2_11 (by omega) (by omega) ?_
    exact ⟨rfl, by omega⟩
  · refine z_lload_n hX rfl dJ7_min_2_6 ?_
    refine z_goto hX (tgt := 11) dJ7_min_2_7 rfl ?_
    (try rw [← hQ])
    refine z_lreturn hX dJ7_min_2_11 (by omega) (by omega) ?_
    exact ⟨rfl, by omega⟩
theorem x_mini (l : Launch) (E : zE) (μ : zM) {v w : Int} (hv : iR v) (hw : iR w) : Met l yJ7_min (ws_ yJ7_min cJ7_min 2 (some .int)) (zR 0 0 0) (va_Pc [.int (zI v), .int (zI w)] (zPre E μ)) (zQi E (fun r μ' => μ = μ' ∧ min v w = r)) 0 0 (zA E) := by
  refine zmetJ (cc := cJ7_min) [_, _] (by decide +kernel) (Nat.le_of_ble_eq_true rfl) rfl rfl ?_
  intro X hl hX hinit; subst hl
  have hX : zOK X _ cJ7_min RJ7 (some .int) 2 := hX
  refine z_iload_n hX rfl dJ7_min_0 ?_
  refine z_iload_n hX rfl dJ7_min_1 ?_
  refine z_icmp_gt hX (by omega) (by omega) dJ7_min_2 (tgt := 9) rfl (fun h_2 => ?_) (fun h_2 => ?_)
  · refine z_iload_n hX rfl dJ7_min_9 ?_
    (try rw [← hQ])
    refine z_ireturn hX dJ7_min_10 (by omega) (by omega) ?_
    exact ⟨rfl, by omega⟩
  · refine z_iload_n hX rfl dJ7_min_5 ?_
    refine z_goto hX (tgt := 10) dJ7_min_6 rfl ?_
    (try rw [← hQ])
    refine z_ireturn hX dJ7_min_10 (by omega) (by omega) ?_
    exact ⟨rfl, by omega⟩
theorem x_maxi (l : Launch) (E : zE) (μ : zM) {v w : Int} (hv : iR v) (hw : iR w) : Met l yJ7_max (ws_ yJ7_max cJ7_max 2 (some .int)) (zR 0 0 0) (va_Pc [.int (zI v), .int (zI w)] (zPre E μ)) (zQi E (fun r μ' => μ = μ' ∧ max v w = r)) 0 0 (zA E) := by
  refine zmetJ (cc := cJ7_max) [_, _] (by decide +kernel) (Nat.le_of_ble_eq_true rfl) rfl rfl ?_
  intro X hl hX hinit; subst hl
  have hX : zOK X _ cJ7_max RJ7 (some .int) 2 := hX
  refine z_iload_n hX rfl dJ7_max_0 ?_
  refine z_iload_n hX rfl dJ7_max_1 ?_
  refine z_icmp_lt hX (by omega) (by omega) dJ7_max_2 (tgt := 9) rfl (fun h_2 => ?_) (fun h_2 => ?_)
  · refine z_iload_n hX rfl dJ7_max_9 ?_
    (try rw [← hQ])
    refine z_ireturn hX dJ7_max_10 (by omega) (by omega) ?_
    exact ⟨rfl, by omega⟩
  · refine z_iload_n hX rfl dJ7_max_5 ?_
    refine z_goto hX (tgt := 10) dJ7_max_6 rfl ?_
    (try rw [← hQ])
    refine z_ireturn hX dJ7_max_10 (by omega) (by omega) ?_
    exact ⟨rfl, by omega⟩
theorem lxor_sgn {a b : Int} (ha : lR a) (hb : 0 < b ∧ b ≤ 9223372036854775807) : ∃ z : Int, zJ a ^^^ zJ b = zJ z ∧ lR z ∧ (z < 0 ↔ a < 0) := by
  refine ⟨(zJ a ^^^ zJ b).toInt, (Int64.ofInt_toInt _).symm, ⟨Int64.le_toInt _, by have := Int64.toInt_lt (zJ a ^^^ zJ b); omega⟩, ?_⟩
  have h1 : (zJ a).toInt = a := zJ_toInt ha
  have h2 : (zJ b).toInt = b := zJ_toInt (by omega)
  have h3 : (zJ a ^^^ zJ b).toBitVec.msb = ((zJ a).toBitVec.msb ^^ (zJ b).toBitVec.msb) := by
    rw [Int64.toBitVec_xor, BitVec.msb_xor]
  have e : ∀ x : Int64, (x.toBitVec.msb = true ↔ x.toInt < 0) := fun x => by
    rw [BitVec.msb_eq_toInt, decide_eq_true_eq]
    exact Iff.rfl
  have hb2 : (zJ b).toBitVec.msb = false := by
    cases h : (zJ b).toBitVec.msb with
    | false => rfl
    | true => have := (e _).mp h; omega
  rw [hb2, Bool.xor_false] at h3
  rw [← e, h3, e, h1]
theorem x_floorDiv (l : Launch) (E : zE) (μ : zM) {a b : Int} (ha : lB a) (hb : 0 < b ∧ b ≤ 1000000000000000000) : Met l yJ7_floorDiv (ws_ yJ7_floorDiv cJ7_floorDiv 6 (some .long)) (zR 0 0 0) (va_Pc [.long (zJ a), .long (zJ b)] (zPre E μ)) (zQl E (fun r μ' => μ = μ' ∧ a / b = r)) 0 0 (zA E) := by
  have hw := whole_eq (a := a) hb.1
  have ha' := ha
  unfold lB at ha'
  obtain ⟨z, hz, hzr, hzs⟩ := lxor_sgn (a := a) (b := b) (by unfold lR; omega) (by omega)
  have hm := Int.mul_tdiv_add_tmod a b
  have hq := Int.natAbs_tdiv_le_natAbs a b
  have hmul : a.tdiv b * b = a - a.tmod b := by
    rw [Int.mul_comm]; omega
  have ht1 : a.tmod b < b := Int.tmod_lt_of_pos a hb.1
  have ht2 : -b < a.tmod b := by
    have := Int.lt_tmod_of_pos a hb.1
    omega
  have hs1 : 0 ≤ a → 0 ≤ a.tmod b := fun h => Int.tmod_nonneg b h
  have hs2 : a < 0 → a.tmod b ≤ 0 := fun h => by
    have := Int.tmod_nonneg b (a := -a) (by omega)
    rw [Int.neg_tmod] at this
    omega
  refine zmetJ (cc := cJ7_floorDiv) [_, _, _, _, _, _] (by decide +kernel) (Nat.le_of_ble_eq_true rfl) rfl rfl ?_
  intro X hl hX hinit; subst hl
  have hX : zOK X _ cJ7_floorDiv RJ7 (some .long) 6 := hX
  refine z_lload_n hX rfl dJ7_floorDiv_0 ?_
  refine z_lload_n hX rfl dJ7_floorDiv_1 ?_
  refine z_ldivt hX (by omega) (by omega) (by omega) dJ7_floorDiv_2 ?_
  refine z_lstore hX (lv' := [_, _, _, _, _, _]) (Nat.le_of_ble_eq_true rfl) (by first | exact zpre_0 | exact zpre_n rfl | exact zpre_1 rfl rfl | exact zpre_1 rfl (va_rf_c _)) rfl rfl dJ7_floorDiv_3 ?_
  refine z_lload_n hX rfl dJ7_floorDiv_5 ?_
  refine z_lload_n hX rfl dJ7_floorDiv_6 ?_
  refine z_lxor hX (z := z) hz dJ7_floorDiv_7 ?_
  refine z_lconst hX (z := 0) (by decide) dJ7_floorDiv_8 ?_
  refine z_lcmp_ge hX (by omega) (by omega) dJ7_floorDiv_9 dJ7_floorDiv_10 (tgt := 27) rfl (fun h_9 => ?_) (fun h_9 => ?_)
  · refine z_lload hX rfl dJ7_floorDiv_27 ?_
    (try rw [← hQ])
    refine z_lreturn hX dJ7_floorDiv_29 (by omega) (by omega) ?_
    exact ⟨rfl, by rw [← hw, if_neg (by omega)]⟩
  · refine z_lload hX rfl dJ7_floorDiv_13 ?_
    refine z_lload_n hX rfl dJ7_floorDiv_15 ?_
    refine z_lmul hX dJ7_floorDiv_16 ?_
    refine z_lload_n hX rfl dJ7_floorDiv_17 ?_
    refine z_lcmp_eq hX (by omega) (by omega) dJ7_floorDiv_18 dJ7_floorDiv_19 (tgt := 27) rfl (fun h_18 => ?_) (fun h_18 => ?_)
    · refine z_lload hX rfl dJ7_floorDiv_27 ?_
      (try rw [← hQ])
      refine z_lreturn hX dJ7_floorDiv_29 (by omega) (by omega) ?_
      exact ⟨rfl, by rw [← hw, if_neg (by omega)]⟩
    · refine z_lload hX rfl dJ7_floorDiv_22 ?_
      refine z_lconst hX (z := 1) (by decide) dJ7_floorDiv_24 ?_
      refine z_lsub hX dJ7_floorDiv_25 ?_
      (try rw [← hQ])
      refine z_lreturn hX dJ7_floorDiv_26 (by omega) (by omega) ?_
      exact ⟨rfl, by rw [← hw, if_pos (by omega)]⟩
