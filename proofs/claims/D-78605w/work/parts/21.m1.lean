/-! MODEL 1: ranges, history -/
set_option maxRecDepth 100000
theorem zg_zg {α : Type} (f : Nat → α) (k : Nat) (v w : α) : zg (zg f k v) k w = zg f k w := by
  funext j
  by_cases h : j = k <;> simp [zg, h]
theorem m_in (l : Launch) (E : zE) (μ : zM) {v a b : Int} (hv : -9223372036854775808 ≤ v ∧ v ≤ 9223372036854775807) (ha : -9223372036854775808 ≤ a ∧ a ≤ 9223372036854775807) (hb : -9223372036854775808 ≤ b ∧ b ≤ 9223372036854775807) : Met l yX1_in (ws_ yX1_in cX1_in 6 (some .boolean)) (zR 0 0 0) (va_Pc [.long (zJ v), .long (zJ a), .long (zJ b)] (zPre E μ)) (zQb E (fun r μ' => μ = μ' ∧ decide (a ≤ v ∧ v ≤ b) = r)) 0 0 (zA E) := by
  refine zmet (cc := cX1_in) [_, _, _, _, _, _] (by decide) (Nat.le_of_ble_eq_true rfl) rfl rfl ?_
  intro X hl hX hinit; subst hl
  have hX : zOK X _ cX1_in RX1 (some .boolean) 6 := hX
  refine z_lload_n hX rfl dX1_in_0 ?_
  refine z_lload_n hX rfl dX1_in_1 ?_
  refine z_lcmp_lt hX (by omega) (by omega) dX1_in_2 dX1_in_3 (tgt := 17) rfl (fun h_2 => ?_) (fun h_2 => ?_)
  · refine z_iconst hX dX1_in_17 ?_
    first | refine z_breturn hX true dX1_in_18 (by omega) (by omega) ?_ | refine z_breturn hX false dX1_in_18 (by omega) (by omega) ?_ | refine z_breturn hX _ dX1_in_18 (by omega) (by omega) ?_
    exact ⟨rfl, (by first | exact decide_eq_true (by omega) | exact decide_eq_false (by omega) | exact decide_eq_decide.mpr (by omega))⟩
  · refine z_lload_n hX rfl dX1_in_6 ?_
    refine z_lload hX rfl dX1_in_7 ?_
    refine z_lcmp_gt hX (by omega) (by omega) dX1_in_9 dX1_in_10 (tgt := 17) rfl (fun h_9 => ?_) (fun h_9 => ?_)
    · refine z_iconst hX dX1_in_17 ?_
      first | refine z_breturn hX true dX1_in_18 (by omega) (by omega) ?_ | refine z_breturn hX false dX1_in_18 (by omega) (by omega) ?_ | refine z_breturn hX _ dX1_in_18 (by omega) (by omega) ?_
      exact ⟨rfl, (by first | exact decide_eq_true (by omega) | exact decide_eq_false (by omega) | exact decide_eq_decide.mpr (by omega))⟩
    · refine z_iconst hX dX1_in_13 ?_
      refine z_goto hX (tgt := 18) dX1_in_14 rfl ?_
      first | refine z_breturn hX true dX1_in_18 (by omega) (by omega) ?_ | refine z_breturn hX false dX1_in_18 (by omega) (by omega) ?_ | refine z_breturn hX _ dX1_in_18 (by omega) (by omega) ?_
      exact ⟨rfl, (by first | exact decide_eq_true (by omega) | exact decide_eq_false (by omega) | exact decide_eq_decide.mpr (by omega))⟩
theorem m_isNode (l : Launch) (E : zE) (μ : zM) {v : Int} (hv : -2147483648 ≤ v ∧ v ≤ 2147483647) : Met l yX1_isNode (ws_ yX1_isNode cX1_isNode 1 (some .boolean)) (zR 1 0 0) (va_Pc [.int (zI v)] (zPre E μ)) (zQb E (fun r μ' => μ = μ' ∧ decide (0 ≤ v ∧ v ≤ 7) = r)) 0 0 (zA E) := by
  refine zmet (cc := cX1_isNode) [_] (by decide) (Nat.le_of_ble_eq_true rfl) rfl rfl ?_
  intro X hl hX hinit; subst hl
  have hX : zOK X _ cX1_isNode RX1 (some .boolean) 1 := hX
  refine z_iload_n hX rfl dX1_isNode_0 ?_
  refine z_i2l hX (by omega) dX1_isNode_1 ?_
  refine z_lconst hX (z := 0) (by decide) dX1_isNode_2 ?_
  refine z_ldc2_w hX (z := 7) q1500 (by decide) dX1_isNode_3 ?_
  refine z_callb (z_runS hX (m_in _ _ _ (by omega) (by omega) (by omega)) (va_cwS 3 hX.ts (lw_S q1501 q1502 q71 q1503) rfl rfl rfl (by decide +kernel) (zroom (by decide) (by decide))) dX1_isNode_6 rfl rfl rfl (by first | exact Nat.le_of_ble_eq_true rfl | simp [va_rf_c, Value.category]) (zhf (by omega) (by omega))) (fun r_6 μ_6 h_6 => ?_)
  obtain ⟨rfl, rfl⟩ := h_6
  first | refine z_breturn hX true dX1_isNode_9 (by omega) (by omega) ?_ | refine z_breturn hX false dX1_isNode_9 (by omega) (by omega) ?_ | refine z_breturn hX _ dX1_isNode_9 (by omega) (by omega) ?_
  exact ⟨rfl, rfl⟩
theorem m_isEdge (l : Launch) (E : zE) {ν : zM} {m0 : Nat} {ad : Nat → Nat} {s : Nat → Int} {A : Nat → Int → Int} (hD : mD m0 ad) (hn : 0 ≤ A 0 112 ∧ A 0 112 ≤ 16) {v : Int} (hv : -2147483648 ≤ v ∧ v ≤ 2147483647) : Met l yX1_isEdge (ws_ yX1_isEdge cX1_isEdge 2 (some .boolean)) (zR 1 0 0) (va_Pc [.ref m0, .int (zI v)] (zPre E (mM E ν m0 ad s A))) (zQb E (fun r μ' => mM E ν m0 ad s A = μ' ∧ decide (0 ≤ v ∧ v < A 0 112) = r)) 0 0 (zA E) := by
  refine zmet (cc := cX1_isEdge) [_, _] (by decide) (Nat.le_of_ble_eq_true rfl) rfl rfl ?_
  intro X hl hX hinit; subst hl
  have hX : zOK X _ cX1_isEdge RX1 (some .boolean) 2 := hX
  refine z_iload_n hX rfl dX1_isEdge_0 ?_
  refine z_i2l hX (by omega) dX1_isEdge_1 ?_
  refine z_lconst hX (z := 0) (by decide) dX1_isEdge_2 ?_
  refine z_aload_n hX rfl (by first | rfl | exact va_rf_r _) dX1_isEdge_3 ?_
  refine zm_get hX 0 (by decide) q1370 dX1_isEdge_4 rfl rfl ?_
  refine z_bipush hX (by decide) dX1_isEdge_7 ?_
  refine zm_iaload hX hD 0 (by decide) (by decide) 113 rfl dX1_isEdge_9 (by omega) ?_
  refine z_iconst hX dX1_isEdge_10 ?_
  refine z_isub hX dX1_isEdge_11 ?_
  refine z_i2l hX (by omega) dX1_isEdge_12 ?_
  refine z_callb (z_runS hX (m_in _ _ _ (by omega) (by omega) (by omega)) (va_cwS 3 hX.ts (lw_S q1501 q1502 q71 q1503) rfl rfl rfl (by decide +kernel) (zroom (by decide) (by decide))) dX1_isEdge_13 rfl rfl rfl (by first | exact Nat.le_of_ble_eq_true rfl | simp [va_rf_c, Value.category]) (zhf (by omega) (by omega))) (fun r_13 μ_13 h_13 => ?_)
  obtain ⟨rfl, rfl⟩ := h_13
  first | refine z_breturn hX true dX1_isEdge_16 (by omega) (by omega) ?_ | refine z_breturn hX false dX1_isEdge_16 (by omega) (by omega) ?_ | refine z_breturn hX _ dX1_isEdge_16 (by omega) (by omega) ?_
  exact ⟨rfl, (by first | exact decide_eq_true (by omega) | exact decide_eq_false (by omega) | exact decide_eq_decide.mpr (by omega))⟩
theorem m_isValue (l : Launch) (E : zE) (μ : zM) {w v : Int} (hw : -2147483648 ≤ w ∧ w ≤ 2147483647) (hv : -2147483648 ≤ v ∧ v ≤ 2147483647) : Met l yX1_isValue (ws_ yX1_isValue cX1_isValue 2 (some .boolean)) (zR 1 0 0) (va_Pc [.int (zI w), .int (zI v)] (zPre E μ)) (zQb E (fun r μ' => μ = μ' ∧ decide ((w = 2 ∧ -99 ≤ v ∧ v ≤ 99) ∨ (w = 3 ∧ -9 ≤ v ∧ v ≤ 9) ∨ (w = 4 ∧ 1 ≤ v ∧ v ≤ 9)) = r)) 0 0 (zA E) := by
  refine zmet (cc := cX1_isValue) [_, _] (by decide) (Nat.le_of_ble_eq_true rfl) rfl rfl ?_
  intro X hl hX hinit; subst hl
  have hX : zOK X _ cX1_isValue RX1 (some .boolean) 2 := hX
  refine z_iload_n hX rfl dX1_isValue_0 ?_
  refine z_iconst hX dX1_isValue_1 ?_
  refine z_icmp_ne hX (by omega) (by omega) dX1_isValue_2 (tgt := 19) rfl (fun h_2 => ?_) (fun h_2 => ?_)
  · refine z_iload_n hX rfl dX1_isValue_19 ?_
    refine z_iconst hX dX1_isValue_20 ?_
    refine z_icmp_ne hX (by omega) (by omega) dX1_isValue_21 (tgt := 38) rfl (fun h_21 => ?_) (fun h_21 => ?_)
    · refine z_iload_n hX rfl dX1_isValue_38 ?_
      refine z_iconst hX dX1_isValue_39 ?_
      refine z_icmp_ne hX (by omega) (by omega) dX1_isValue_40 (tgt := 59) rfl (fun h_40 => ?_) (fun h_40 => ?_)
      · refine z_iconst hX dX1_isValue_59 ?_
        first | refine z_breturn hX true dX1_isValue_60 (by omega) (by omega) ?_ | refine z_breturn hX false dX1_isValue_60 (by omega) (by omega) ?_ | refine z_breturn hX _ dX1_isValue_60 (by omega) (by omega) ?_
        exact ⟨rfl, (by first | exact decide_eq_true (by omega) | exact decide_eq_false (by omega) | exact decide_eq_decide.mpr (by omega))⟩
      · refine z_iload_n hX rfl dX1_isValue_43 ?_
        refine z_i2l hX (by omega) dX1_isValue_44 ?_
        refine z_lconst hX (z := 1) (by decide) dX1_isValue_45 ?_
        refine z_ldc2_w hX (z := 9) q1510 (by decide) dX1_isValue_46 ?_
        refine z_callb (z_runS hX (m_in _ _ _ (by omega) (by omega) (by omega)) (va_cwS 3 hX.ts (lw_S q1501 q1502 q71 q1503) rfl rfl rfl (by decide +kernel) (zroom (by decide) (by decide))) dX1_isValue_49 rfl rfl rfl (by first | exact Nat.le_of_ble_eq_true rfl | simp [va_rf_c, Value.category]) (zhf (by omega) (by omega))) (fun r_49 μ_49 h_49 => ?_)
        obtain ⟨rfl, rfl⟩ := h_49
        refine z_if_eq_b hX dX1_isValue_52 (tgt := 59) rfl (fun h_52 => ?_) (fun h_52 => ?_)
        · refine z_iconst hX dX1_isValue_59 ?_
          first | refine z_breturn hX true dX1_isValue_60 (by omega) (by omega) ?_ | refine z_breturn hX false dX1_isValue_60 (by omega) (by omega) ?_ | refine z_breturn hX _ dX1_isValue_60 (by omega) (by omega) ?_
          exact ⟨rfl, by simp only [decide_eq_true_eq, decide_eq_false_iff_not] at h_52; exact (by first | exact decide_eq_true (by omega) | exact decide_eq_false (by omega) | exact decide_eq_decide.mpr (by omega))⟩
        · refine z_iconst hX dX1_isValue_55 ?_
          refine z_goto hX (tgt := 60) dX1_isValue_56 rfl ?_
          first | refine z_breturn hX true dX1_isValue_60 (by omega) (by omega) ?_ | refine z_breturn hX false dX1_isValue_60 (by omega) (by omega) ?_ | refine z_breturn hX _ dX1_isValue_60 (by omega) (by omega) ?_
          exact ⟨rfl, by simp only [decide_eq_true_eq, decide_eq_false_iff_not] at h_52; exact (by first | exact decide_eq_true (by omega) | exact decide_eq_false (by omega) | exact decide_eq_decide.mpr (by omega))⟩
    · refine z_iload_n hX rfl dX1_isValue_24 ?_
      refine z_i2l hX (by omega) dX1_isValue_25 ?_
      refine z_ldc2_w hX (z := -9) q1509 (by decide) dX1_isValue_26 ?_
      refine z_ldc2_w hX (z := 9) q1510 (by decide) dX1_isValue_29 ?_
      refine z_callb (z_runS hX (m_in _ _ _ (by omega) (by omega) (by omega)) (va_cwS 3 hX.ts (lw_S q1501 q1502 q71 q1503) rfl rfl rfl (by decide +kernel) (zroom (by decide) (by decide))) dX1_isValue_32 rfl rfl rfl (by first | exact Nat.le_of_ble_eq_true rfl | simp [va_rf_c, Value.category]) (zhf (by omega) (by omega))) (fun r_32 μ_32 h_32 => ?_)
      obtain ⟨rfl, rfl⟩ := h_32
      refine z_goto hX (tgt := 60) dX1_isValue_35 rfl ?_
      first | refine z_breturn hX true dX1_isValue_60 (by omega) (by omega) ?_ | refine z_breturn hX false dX1_isValue_60 (by omega) (by omega) ?_ | refine z_breturn hX _ dX1_isValue_60 (by omega) (by omega) ?_
      exact ⟨rfl, (by first | exact decide_eq_true (by omega) | exact decide_eq_false (by omega) | exact decide_eq_decide.mpr (by omega))⟩
  · refine z_iload_n hX rfl dX1_isValue_5 ?_
    refine z_i2l hX (by omega) dX1_isValue_6 ?_
    refine z_ldc2_w hX (z := -99) q1507 (by decide) dX1_isValue_7 ?_
    refine z_ldc2_w hX (z := 99) q1508 (by decide) dX1_isValue_10 ?_
    refine z_callb (z_runS hX (m_in _ _ _ (by omega) (by omega) (by omega)) (va_cwS 3 hX.ts (lw_S q1501 q1502 q71 q1503) rfl rfl rfl (by decide +kernel) (zroom (by decide) (by decide))) dX1_isValue_13 rfl rfl rfl (by first | exact Nat.le_of_ble_eq_true rfl | simp [va_rf_c, Value.category]) (zhf (by omega) (by omega))) (fun r_13 μ_13 h_13 => ?_)
    obtain ⟨rfl, rfl⟩ := h_13
    refine z_goto hX (tgt := 60) dX1_isValue_16 rfl ?_
    first | refine z_breturn hX true dX1_isValue_60 (by omega) (by omega) ?_ | refine z_breturn hX false dX1_isValue_60 (by omega) (by omega) ?_ | refine z_breturn hX _ dX1_isValue_60 (by omega) (by omega) ?_
    exact ⟨rfl, (by first | exact decide_eq_true (by omega) | exact decide_eq_false (by omega) | exact decide_eq_decide.mpr (by omega))⟩
theorem m_of (l : Launch) (E : zE) {ν : zM} {m0 : Nat} {ad : Nat → Nat} {s : Nat → Int} {A : Nat → Int → Int} (hD : mD m0 ad) {e w : Int} (h : 0 ≤ 7 * e + w ∧ 7 * e + w < 113) : Met l yX1_of (ws_ yX1_of cX1_of 3 (some .int)) (zR 1 0 0) (va_Pc [.ref m0, .int (zI e), .int (zI w)] (zPre E (mM E ν m0 ad s A))) (zQi E (fun r μ' => mM E ν m0 ad s A = μ' ∧ A 0 (7 * e + w) = r)) 0 0 (zA E) := by
  refine zmet (cc := cX1_of) [_, _, _] (by decide) (Nat.le_of_ble_eq_true rfl) rfl rfl ?_
  intro X hl hX hinit; subst hl
  have hX : zOK X _ cX1_of RX1 (some .int) 3 := hX
  refine z_aload_n hX rfl (by first | rfl | exact va_rf_r _) dX1_of_0 ?_
  refine zm_get hX 0 (by decide) q1370 dX1_of_1 rfl rfl ?_
  refine z_bipush hX (by decide) dX1_of_4 ?_
  refine z_iload_n hX rfl dX1_of_6 ?_
  refine z_imul hX dX1_of_7 ?_
  refine z_iload_n hX rfl dX1_of_8 ?_
  refine z_iadd hX dX1_of_9 ?_
  refine zm_iaload hX hD 0 (by decide) (by decide) 113 rfl dX1_of_10 (by omega) ?_
  refine z_ireturn hX dX1_of_11 (by omega) (by omega) ?_
  exact ⟨rfl, rfl⟩
/-- what keeps() leaves in past -/
def kpast (s : Nat → Int) (A : Nat → Int → Int) : Int → Int := fun j => if 113 * (if s 2 = 12 then 11 else s 2) ≤ j ∧ j < 113 * (if s 2 = 12 then 11 else s 2) + 113 then A 0 (j - 113 * (if s 2 = 12 then 11 else s 2)) else if s 2 = 12 ∧ 0 ≤ j ∧ j < 1243 then A 1 (j + 113) else A 1 j
theorem m_keeps (l : Launch) (E : zE) {ν : zM} {m0 : Nat} {ad : Nat → Nat} {s : Nat → Int} {A : Nat → Int → Int} (hD : mD m0 ad) (hu : 0 ≤ s 2 ∧ s 2 ≤ 12) : Met l yX1_keeps (ws_ yX1_keeps cX1_keeps 2 none) (zR 1 0 0) (va_Pc [.ref m0] (zPre E (mM E ν m0 ad s A))) (zQv E (fun μ' => mM E ν m0 ad (zg s 2 ((if s 2 = 12 then 11 else s 2) + 1)) (zg A 1 (kpast s A)) = μ')) 0 0 (zA E) := by
  refine zmet (cc := cX1_keeps) [_, _] (by decide) (Nat.le_of_ble_eq_true rfl) rfl rfl ?_
  intro X hl hX hinit; subst hl
  have hX : zOK X _ cX1_keeps RX1 none 2 := hX
  generalize hQ : MQ _ _ _ _ _ _ _ = Q
  have loop2 : ∀ (n : Nat) (i : Int) (s1 : Nat → Int) (B0 : Int → Int), 0 ≤ i → i ≤ 113 → 113 < i + n → (0 ≤ s1 2 ∧ s1 2 ≤ 11) → zg s 2 ((if s 2 = 12 then 11 else s 2) + 1) = zg s1 2 (s1 2 + 1) → kpast s A = (fun j => if 113 * s1 2 ≤ j ∧ j < 113 * s1 2 + 113 then A 0 (j - 113 * s1 2) else B0 j) → zW X (zR 1 0 0) E (mM E ν m0 ad s1 (zg A 1 (fun j => if 113 * s1 2 ≤ j ∧ j < 113 * s1 2 + i then A 0 (j - 113 * s1 2) else B0 j))) 0 0 Q 51 [some (.ref m0), some (.int (zI i))] [] := by
    intro n
    induction n with
    | zero => intros; exfalso; omega
    | succ n ih =>
      intro i s1 B0 h0 h1 hn hs e1 e2
      refine z_iload_n hX rfl dX1_keeps_51 ?_
      refine z_bipush hX (by decide) dX1_keeps_52 ?_
      refine z_icmp_ge hX (by omega) (by omega) dX1_keeps_54 (tgt := 83) rfl (fun h_54 => ?_) (fun h_54 => ?_)
      · obtain rfl : i = 113 := by omega
        rw [← e2]
        rw [← hQ]
        refine z_aload_n hX rfl (by first | rfl | exact va_rf_r _) dX1_keeps_83 ?_
        refine z_dup hX (by first | rfl | exact va_rf_c _) dX1_keeps_84 ?_
        refine zm_get hX 2 (by decide) q1372 dX1_keeps_85 rfl rfl ?_
        refine z_iconst hX dX1_keeps_88 ?_
        refine z_iadd hX dX1_keeps_89 ?_
        refine zm_puti hX hD 2 (by decide) q1372 dX1_keeps_90 rfl mset_2 ?_
        refine z_return hX dX1_keeps_93 (by omega) (by omega) ?_
        rw [← e1]
      · refine z_aload_n hX rfl (by first | rfl | exact va_rf_r _) dX1_keeps_57 ?_
        refine zm_get hX 1 (by decide) q1371 dX1_keeps_58 rfl rfl ?_
        refine z_bipush hX (by decide) dX1_keeps_61 ?_
        refine z_aload_n hX rfl (by first | rfl | exact va_rf_r _) dX1_keeps_63 ?_
        refine zm_get hX 2 (by decide) q1372 dX1_keeps_64 rfl rfl ?_
        refine z_imul hX dX1_keeps_67 ?_
        refine z_iload_n hX rfl dX1_keeps_68 ?_
        refine z_iadd hX dX1_keeps_69 ?_
        refine z_aload_n hX rfl (by first | rfl | exact va_rf_r _) dX1_keeps_70 ?_
        refine zm_get hX 0 (by decide) q1370 dX1_keeps_71 rfl rfl ?_
        refine z_iload_n hX rfl dX1_keeps_74 ?_
        refine zm_iaload hX hD 0 (by decide) (by decide) 113 rfl dX1_keeps_75 (by omega) ?_
        refine zm_iastore hX hD 1 (by decide) (by decide) 1356 rfl dX1_keeps_76 (by omega) ?_
        refine z_iinc hX (lv' := [_, _]) rfl (Nat.le_of_ble_eq_true rfl) (by first | exact zpre_0 | exact zpre_n rfl | exact zpre_1 rfl rfl | exact zpre_1 rfl (va_rf_c _)) rfl dX1_keeps_77 ?_
        refine z_goto hX (tgt := 51) dX1_keeps_80 rfl ?_
        rw [zg_zg, show zf (zg A 1 (fun j => if 113 * s1 2 ≤ j ∧ j < 113 * s1 2 + i then A 0 (j - 113 * s1 2) else B0 j) 1) (113 * s1 2 + i) (zg A 1 (fun j => if 113 * s1 2 ≤ j ∧ j < 113 * s1 2 + i then A 0 (j - 113 * s1 2) else B0 j) 0 i) = (fun j => if 113 * s1 2 ≤ j ∧ j < 113 * s1 2 + (i + 1) then A 0 (j - 113 * s1 2) else B0 j) from by
          rw [zg_s, zg_n (by decide)]
          funext j
          by_cases hj : j = 113 * s1 2 + i
          · subst hj
            rw [zf_s, if_pos (by omega)]
            congr 1; omega
          · rw [zf_n hj]
            by_cases hj2 : 113 * s1 2 ≤ j ∧ j < 113 * s1 2 + i
            · rw [if_pos hj2, if_pos (by omega)]
            · rw [if_neg hj2, if_neg (by omega)]]
        exact ih (i + 1) s1 B0 (by omega) (by omega) (by omega) hs e1 e2
  have loop1 : ∀ (n : Nat) (i : Int), s 2 = 12 → 0 ≤ i → i ≤ 1243 → 1243 < i + n → zW X (zR 1 0 0) E (mM E ν m0 ad s (zg A 1 (fun j => if 0 ≤ j ∧ j < i then A 1 (j + 113) else A 1 j))) 0 0 Q 11 [some (.ref m0), some (.int (zI i))] [] := by
    intro n
    induction n with
    | zero => intros; exfalso; omega
    | succ n ih =>
      intro i h12 h0 h1 hn
      refine z_iload_n hX rfl dX1_keeps_11 ?_
      refine z_sipush hX (by decide) dX1_keeps_12 ?_
      refine z_icmp_ge hX (by omega) (by omega) dX1_keeps_15 (tgt := 39) rfl (fun h_15 => ?_) (fun h_15 => ?_)
      · obtain rfl : i = 1243 := by omega
        refine z_aload_n hX rfl (by first | rfl | exact va_rf_r _) dX1_keeps_39 ?_
        refine z_dup hX (by first | rfl | exact va_rf_c _) dX1_keeps_40 ?_
        refine zm_get hX 2 (by decide) q1372 dX1_keeps_41 rfl rfl ?_
        refine z_iconst hX dX1_keeps_44 ?_
        refine z_isub hX dX1_keeps_45 ?_
        refine zm_puti hX hD 2 (by decide) q1372 dX1_keeps_46 rfl mset_2 ?_
        refine z_iconst hX dX1_keeps_49 ?_
        refine z_istore_n hX (lv' := [_, _]) (Nat.le_of_ble_eq_true rfl) (by first | exact zpre_0 | exact zpre_n rfl | exact zpre_1 rfl rfl | exact zpre_1 rfl (va_rf_c _)) rfl dX1_keeps_50 ?_
        rw [show s 2 - 1 = 11 by omega]
        have h := loop2 114 0 (zg s 2 11) (fun j => if 0 ≤ j ∧ j < 1243 then A 1 (j + 113) else A 1 j) (by omega) (by omega) (by omega) (by rw [zg_s]; omega) (by rw [zg_s, zg_zg, if_pos h12]) (by
          rw [zg_s]
          funext j
          unfold kpast
          rw [if_pos h12]
          by_cases hj : 113 * 11 ≤ j ∧ j < 113 * 11 + 113
          · rw [if_pos hj, if_pos hj]
          · rw [if_neg hj, if_neg hj]
            by_cases hj2 : 0 ≤ j ∧ j < 1243
            · rw [if_pos ⟨h12, hj2⟩, if_pos hj2]
            · rw [if_neg (fun q => hj2 q.2), if_neg hj2])
        rw [zg_s] at h
        rw [show (fun j => if 113 * 11 ≤ j ∧ j < 113 * 11 + 0 then A 0 (j - 113 * 11) else if 0 ≤ j ∧ j < 1243 then A 1 (j + 113) else A 1 j) = (fun j => if 0 ≤ j ∧ j < 1243 then A 1 (j + 113) else A 1 j) from by
          funext j
          rw [if_neg (by omega)]] at h
        exact h
      · refine z_aload_n hX rfl (by first | rfl | exact va_rf_r _) dX1_keeps_18 ?_
        refine zm_get hX 1 (by decide) q1371 dX1_keeps_19 rfl rfl ?_
        refine z_iload_n hX rfl dX1_keeps_22 ?_
        refine z_aload_n hX rfl (by first | rfl | exact va_rf_r _) dX1_keeps_23 ?_
        refine zm_get hX 1 (by decide) q1371 dX1_keeps_24 rfl rfl ?_
        refine z_iload_n hX rfl dX1_keeps_27 ?_
        refine z_bipush hX (by decide) dX1_keeps_28 ?_
        refine z_iadd hX dX1_keeps_30 ?_
        refine zm_iaload hX hD 1 (by decide) (by decide) 1356 rfl dX1_keeps_31 (by omega) ?_
        refine zm_iastore hX hD 1 (by decide) (by decide) 1356 rfl dX1_keeps_32 (by omega) ?_
        refine z_iinc hX (lv' := [_, _]) rfl (Nat.le_of_ble_eq_true rfl) (by first | exact zpre_0 | exact zpre_n rfl | exact zpre_1 rfl rfl | exact zpre_1 rfl (va_rf_c _)) rfl dX1_keeps_33 ?_
        refine z_goto hX (tgt := 11) dX1_keeps_36 rfl ?_
        rw [zg_zg, show zf (zg A 1 (fun j => if 0 ≤ j ∧ j < i then A 1 (j + 113) else A 1 j) 1) i (zg A 1 (fun j => if 0 ≤ j ∧ j < i then A 1 (j + 113) else A 1 j) 1 (i + 113)) = (fun j => if 0 ≤ j ∧ j < i + 1 then A 1 (j + 113) else A 1 j) from by
          rw [zg_s]
          funext j
          by_cases hj : j = i
          · subst hj
            rw [zf_s, if_neg (by omega), if_pos (by omega)]
          · rw [zf_n hj]
            by_cases hj2 : 0 ≤ j ∧ j < i
            · rw [if_pos hj2, if_pos (by omega)]
            · rw [if_neg hj2, if_neg (by omega)]]
        exact ih (i + 1) h12 (by omega) (by omega) (by omega)
  refine z_aload_n hX rfl (by first | rfl | exact va_rf_r _) dX1_keeps_0 ?_
  refine zm_get hX 2 (by decide) q1372 dX1_keeps_1 rfl rfl ?_
  refine z_bipush hX (by decide) dX1_keeps_4 ?_
  refine z_icmp_ne hX (by omega) (by omega) dX1_keeps_6 (tgt := 49) rfl (fun h_6 => ?_) (fun h_6 => ?_)
  · refine z_iconst hX dX1_keeps_49 ?_
    refine z_istore_n hX (lv' := [_, _]) (Nat.le_of_ble_eq_true rfl) (by first | exact zpre_0 | exact zpre_n rfl | exact zpre_1 rfl rfl | exact zpre_1 rfl (va_rf_c _)) rfl dX1_keeps_50 ?_
    have h := loop2 114 0 s (A 1) (by omega) (by omega) (by omega) (by omega) (by rw [if_neg h_6]) (by
      funext j
      unfold kpast
      rw [if_neg h_6, if_neg (show ¬ (s 2 = 12 ∧ 0 ≤ j ∧ j < 1243) from fun q => h_6 q.1)])
    refine zW.mu ?_ h
    have e : (fun j => if 113 * s 2 ≤ j ∧ j < 113 * s 2 + 0 then A 0 (j - 113 * s 2) else A 1 j) = A 1 := by
      funext j
      rw [if_neg (by omega)]
    rw [e]
    congr 1
    funext k
    by_cases hk : k = 1
    · subst hk; rw [zg_s]
    · rw [zg_n hk]
  · refine z_iconst hX dX1_keeps_9 ?_
    refine z_istore_n hX (lv' := [_, _]) (Nat.le_of_ble_eq_true rfl) (by first | exact zpre_0 | exact zpre_n rfl | exact zpre_1 rfl rfl | exact zpre_1 rfl (va_rf_c _)) rfl dX1_keeps_10 ?_
    have h := loop1 1244 0 h_6 (by omega) (by omega) (by omega)
    refine zW.mu ?_ h
    have e : (fun j => if 0 ≤ j ∧ j < 0 then A 1 (j + 113) else A 1 j) = A 1 := by
      funext j
      rw [if_neg (by omega)]
    rw [e]
    congr 1
    funext k
    by_cases hk : k = 1
    · subst hk; rw [zg_s]
    · rw [zg_n hk]
