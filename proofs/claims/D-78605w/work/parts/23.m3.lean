/-! MODEL 3: fractions -/
set_option maxRecDepth 100000
abbrev lB (v : Int) : Prop := -1000000000000000000 ≤ v ∧ v ≤ 1000000000000000000
theorem m_whole (l : Launch) (E : zE) (μ : zM) {a b : Int} (ha : lB a) (hb : 0 < b ∧ b ≤ 1000000000000000000) : Met l yX1_whole (ws_ yX1_whole cX1_whole 6 (some .long)) (zR 0 0 0) (va_Pc [.long (zJ a), .long (zJ b)] (zPre E μ)) (zQl E (fun r μ' => μ = μ' ∧ a / b = r)) 0 0 (zA E) := by
  have h1 := whole_eq (a := a) hb.1
  have h2 : a.tmod b < b := Int.tmod_lt_of_pos a hb.1
  have h3 : -b < a.tmod b := by
    have := Int.lt_tmod_of_pos a hb.1
    omega
  refine zmet (cc := cX1_whole) [_, _, _, _, _, _] (by decide) (Nat.le_of_ble_eq_true rfl) rfl rfl ?_
  intro X hl hX hinit; subst hl
  have hX : zOK X _ cX1_whole RX1 (some .long) 6 := hX
  refine z_lload_n hX rfl dX1_whole_0 ?_
  refine z_lload_n hX rfl dX1_whole_1 ?_
  refine z_ldivt hX (by omega) (by omega) (by omega) dX1_whole_2 ?_
  refine z_lstore hX (lv' := [_, _, _, _, _, _]) (Nat.le_of_ble_eq_true rfl) (by first | exact zpre_0 | exact zpre_n rfl | exact zpre_1 rfl rfl | exact zpre_1 rfl (va_rf_c _)) rfl rfl dX1_whole_3 ?_
  refine z_lload_n hX rfl dX1_whole_5 ?_
  refine z_lload_n hX rfl dX1_whole_6 ?_
  refine z_lremt hX (by omega) (by omega) (by omega) dX1_whole_7 ?_
  refine z_lconst hX (z := 0) (by decide) dX1_whole_8 ?_
  refine z_lcmp_ge hX (by omega) (by omega) dX1_whole_9 dX1_whole_10 (tgt := 20) rfl (fun h_9 => ?_) (fun h_9 => ?_)
  · rw [if_neg (by omega)] at h1
    refine z_lload hX rfl dX1_whole_20 ?_
    (try rw [← hQ])
    refine z_lreturn hX dX1_whole_22 (by omega) (by omega) ?_
    exact ⟨rfl, h1.symm⟩
  · rw [if_pos (by omega)] at h1
    refine z_lload hX rfl dX1_whole_13 ?_
    refine z_lconst hX (z := 1) (by decide) dX1_whole_15 ?_
    refine z_lsub hX dX1_whole_16 ?_
    refine z_goto hX (tgt := 22) dX1_whole_17 rfl ?_
    (try rw [← hQ])
    refine z_lreturn hX dX1_whole_22 (by omega) (by omega) ?_
    exact ⟨rfl, h1.symm⟩
theorem m_common (l : Launch) (E : zE) (μ : zM) {a b : Int} (ha : lB a) (hb : 0 ≤ b ∧ b ≤ 1000000000000000000) : Met l yX1_common (ws_ yX1_common cX1_common 10 (some .long)) (zR 0 0 0) (va_Pc [.long (zJ a), .long (zJ b)] (zPre E μ)) (zQl E (fun r μ' => μ = μ' ∧ (Int.gcd a b : Int) = r)) 0 0 (zA E) := by
  refine zmet (cc := cX1_common) [_, _, _, _, _, _, _, _, _, _] (by decide) (Nat.le_of_ble_eq_true rfl) rfl rfl ?_
  intro X hl hX hinit; subst hl
  have hX : zOK X _ cX1_common RX1 (some .long) 10 := hX
  generalize hQ : MQ _ _ _ _ _ _ _ = Q
  have loop : ∀ (n P Q1 : Nat), Q1 < n → P ≤ 1000000000000000000 → Q1 ≤ 1000000000000000000 → Nat.gcd P Q1 = Int.gcd a b → ∀ x, zW X (zR 0 0 0) E (μ) 0 0 Q 17 [some (.long (zJ a)), none, some (.long (zJ b)), none, some (.long (zJ (P : Int))), none, some (.long (zJ (Q1 : Int))), none, x, none] [] := by
    intro n
    induction n with
    | zero => intros; exfalso; omega
    | succ n ih =>
      intro P Q1 hn hP hQ1 hg x
      refine zW.mask [true, false, true, false, true, false, true, false, false, false] (lv' := [_, none, _, none, _, none, _, none, none, none]) rfl ?_
      refine z_lload hX rfl dX1_common_17 ?_
      refine z_lconst hX (z := 0) (by decide) dX1_common_19 ?_
      refine z_lcmp_eq hX (by omega) (by omega) dX1_common_20 dX1_common_21 (tgt := 42) rfl (fun h_20 => ?_) (fun h_20 => ?_)
      · have h : Q1 = 0 := by omega
        subst h
        refine z_lload hX rfl dX1_common_42 ?_
        (try rw [← hQ])
        refine z_lreturn hX dX1_common_44 (by omega) (by omega) ?_
        exact ⟨rfl, by rw [← hg, Nat.gcd_zero_right]⟩
      · have h4 : (P : Int).tmod (Q1 : Int) = ((P % Q1 : Nat) : Int) := by rw [Int.ofNat_tmod]
        refine z_lload hX rfl dX1_common_24 ?_
        refine z_lload hX rfl dX1_common_26 ?_
        refine z_lremt hX (by omega) (by omega) (by omega) dX1_common_28 ?_
        refine z_lstore hX (lv' := [_, _, _, _, _, _, _, _, _, _]) (Nat.le_of_ble_eq_true rfl) (by first | exact zpre_0 | exact zpre_n rfl | exact zpre_1 rfl rfl | exact zpre_1 rfl (va_rf_c _)) rfl rfl dX1_common_29 ?_
        refine z_lload hX rfl dX1_common_31 ?_
        refine z_lstore hX (lv' := [_, _, _, _, _, _, _, _, _, _]) (Nat.le_of_ble_eq_true rfl) (by first | exact zpre_0 | exact zpre_n rfl | exact zpre_1 rfl rfl | exact zpre_1 rfl (va_rf_c _)) rfl rfl dX1_common_33 ?_
        refine z_lload hX rfl dX1_common_35 ?_
        refine z_lstore hX (lv' := [_, _, _, _, _, _, _, _, _, _]) (Nat.le_of_ble_eq_true rfl) (by first | exact zpre_0 | exact zpre_n rfl | exact zpre_1 rfl rfl | exact zpre_1 rfl (va_rf_c _)) rfl rfl dX1_common_37 ?_
        refine z_goto hX (tgt := 17) dX1_common_39 rfl ?_
        rw [h4]
        have h5 : P % Q1 < Q1 := Nat.mod_lt _ (by omega)
        exact ih Q1 (P % Q1) (by omega) hQ1 (by omega) (by rw [← gcd_step]; exact hg) _
  have hgb : Nat.gcd a.natAbs b.toNat = Int.gcd a b := by
    rw [Int.gcd, show b.natAbs = b.toNat by omega]
  refine z_lload_n hX rfl dX1_common_0 ?_
  refine z_lconst hX (z := 0) (by decide) dX1_common_1 ?_
  refine z_lcmp_ge hX (by omega) (by omega) dX1_common_2 dX1_common_3 (tgt := 11) rfl (fun h_2 => ?_) (fun h_2 => ?_)
  · refine z_lload_n hX rfl dX1_common_11 ?_
    refine z_lstore hX (lv' := [_, _, _, _, _, _, _, _, _, _]) (Nat.le_of_ble_eq_true rfl) (by first | exact zpre_0 | exact zpre_n rfl | exact zpre_1 rfl rfl | exact zpre_1 rfl (va_rf_c _)) rfl rfl dX1_common_12 ?_
    refine z_lload_n hX rfl dX1_common_14 ?_
    refine z_lstore hX (lv' := [_, _, _, _, _, _, _, _, _, _]) (Nat.le_of_ble_eq_true rfl) (by first | exact zpre_0 | exact zpre_n rfl | exact zpre_1 rfl rfl | exact zpre_1 rfl (va_rf_c _)) rfl rfl dX1_common_15 ?_
    have h := loop (b.toNat + 1) a.natAbs b.toNat (by omega) (by omega) (by omega) hgb none
    rw [show ((a.natAbs : Nat) : Int) = a by omega, show ((b.toNat : Nat) : Int) = b by omega] at h
    exact h
  · refine z_lload_n hX rfl dX1_common_6 ?_
    refine z_lneg hX dX1_common_7 ?_
    refine z_goto hX (tgt := 12) dX1_common_8 rfl ?_
    refine z_lstore hX (lv' := [_, _, _, _, _, _, _, _, _, _]) (Nat.le_of_ble_eq_true rfl) (by first | exact zpre_0 | exact zpre_n rfl | exact zpre_1 rfl rfl | exact zpre_1 rfl (va_rf_c _)) rfl rfl dX1_common_12 ?_
    refine z_lload_n hX rfl dX1_common_14 ?_
    refine z_lstore hX (lv' := [_, _, _, _, _, _, _, _, _, _]) (Nat.le_of_ble_eq_true rfl) (by first | exact zpre_0 | exact zpre_n rfl | exact zpre_1 rfl rfl | exact zpre_1 rfl (va_rf_c _)) rfl rfl dX1_common_15 ?_
    have h := loop (b.toNat + 1) a.natAbs b.toNat (by omega) (by omega) (by omega) hgb none
    rw [show ((a.natAbs : Nat) : Int) = -a by omega, show ((b.toNat : Nat) : Int) = b by omega] at h
    exact h
theorem m_compares (l : Launch) (E : zE) (μ : zM) {a b c d : Int} (ha : lB a) (hb : 0 < b ∧ b ≤ 1000000000000000000) (hc : lB c) (hd : 0 < d ∧ d ≤ 1000000000000000000) : Met l yX1_compares (ws_ yX1_compares cX1_compares 25 (some .int)) (zR 1 0 0) (va_Pc [.long (zJ a), .long (zJ b), .long (zJ c), .long (zJ d)] (zPre E μ)) (zQi E (fun r μ' => μ = μ' ∧ gsg (a * d - c * b) = r)) 0 0 (zA E) := by
  refine zmet (cc := cX1_compares) [_, _, _, _, _, _, _, _, _, _, _, _, _, _, _, _, _, _, _, _, _, _, _, _, _] (by decide) (Nat.le_of_ble_eq_true rfl) rfl rfl ?_
  intro X hl hX hinit; subst hl
  have hX : zOK X _ cX1_compares RX1 (some .int) 25 := hX
  generalize hQ : MQ _ _ _ _ _ _ _ = Q
  have loop : ∀ (n : Nat) (p q r s g : Int), q.toNat < n → lB p → (0 < q ∧ q ≤ 1000000000000000000) → lB r → (0 < s ∧ s ≤ 1000000000000000000) → (g = 1 ∨ g = -1) → g * gsg (p * s - r * q) = gsg (a * d - c * b) → ∀ x1 x2 x3 x4, zW X (zR 1 0 0) E (μ) 0 0 Q 17 [some (.long (zJ a)), none, some (.long (zJ b)), none, some (.long (zJ c)), none, some (.long (zJ d)), none, some (.long (zJ p)), none, some (.long (zJ q)), none, some (.long (zJ r)), none, some (.long (zJ s)), none, some (.int (zI g)), x1, none, x2, none, x3, none, x4, none] [] := by
    intro n
    induction n with
    | zero => intros; exfalso; omega
    | succ n ih =>
      intro p q r s g hn hp hq hr hs hg he x1 x2 x3 x4
      refine zW.mask [true, true, true, true, true, true, true, true, true, true, true, true, true, true, true, true, true, false, false, false, false, false, false, false, false] (lv' := [_, _, _, _, _, _, _, _, _, _, _, _, _, _, _, _, _, none, none, none, none, none, none, none, none]) rfl ?_
      have b1 : -1000000000000000000 ≤ p / q ∧ p / q ≤ 1000000000000000000 := by
        have h1 := fl_le (p := p) hq.1
        have h2 := fl_lt (p := p) hq.1
        have h3 := Int.le_ediv_iff_mul_le (a := -1000000000000000000) (b := p) hq.1
        have h4 := Int.ediv_lt_iff_lt_mul (a := p) (b := 1000000000000000001) hq.1
        exact ⟨h3.mpr (by omega), by have := h4.mpr (by omega); omega⟩
      have b2 : -1000000000000000000 ≤ r / s ∧ r / s ≤ 1000000000000000000 := by
        have h3 := Int.le_ediv_iff_mul_le (a := -1000000000000000000) (b := r) hs.1
        have h4 := Int.ediv_lt_iff_lt_mul (a := r) (b := 1000000000000000001) hs.1
        exact ⟨h3.mpr (by omega), by have := h4.mpr (by omega); omega⟩
      have f1 := fl_rest (p := p) hq.1
      have f2 := fl_rest (p := r) hs.1
      refine z_lload hX rfl dX1_compares_17 ?_
      refine z_lload hX rfl dX1_compares_19 ?_
      refine z_calll (z_runS hX (m_whole _ _ _ hp hq) (va_cwS 2 hX.ts (lw_S q1630 q1631 q71 q1632) rfl rfl rfl (by decide +kernel) (zroom (by decide) (by decide))) dX1_compares_21 rfl rfl rfl (by first | exact Nat.le_of_ble_eq_true rfl | simp [va_rf_c, Value.category]) (zhf (by omega) (by omega))) (fun r_21 μ_21 h_21 => ?_)
      obtain ⟨rfl, rfl⟩ := h_21
      refine z_lstore hX (lv' := [_, _, _, _, _, _, _, _, _, _, _, _, _, _, _, _, _, _, _, _, _, _, _, _, _]) (Nat.le_of_ble_eq_true rfl) (by first | exact zpre_0 | exact zpre_n rfl | exact zpre_1 rfl rfl | exact zpre_1 rfl (va_rf_c _)) rfl rfl dX1_compares_24 ?_
      refine z_lload hX rfl dX1_compares_26 ?_
      refine z_lload hX rfl dX1_compares_28 ?_
      refine z_calll (z_runS hX (m_whole _ _ _ hr hs) (va_cwS 2 hX.ts (lw_S q1630 q1631 q71 q1632) rfl rfl rfl (by decide +kernel) (zroom (by decide) (by decide))) dX1_compares_30 rfl rfl rfl (by first | exact Nat.le_of_ble_eq_true rfl | simp [va_rf_c, Value.category]) (zhf (by omega) (by omega))) (fun r_30 μ_30 h_30 => ?_)
      obtain ⟨rfl, rfl⟩ := h_30
      refine z_lstore hX (lv' := [_, _, _, _, _, _, _, _, _, _, _, _, _, _, _, _, _, _, _, _, _, _, _, _, _]) (Nat.le_of_ble_eq_true rfl) (by first | exact zpre_0 | exact zpre_n rfl | exact zpre_1 rfl rfl | exact zpre_1 rfl (va_rf_c _)) rfl rfl dX1_compares_33 ?_
      refine z_lload hX rfl dX1_compares_35 ?_
      refine z_lload hX rfl dX1_compares_37 ?_
      refine z_lcmp_eq hX (by omega) (by omega) dX1_compares_39 dX1_compares_40 (tgt := 60) rfl (fun h_39 => ?_) (fun h_39 => ?_)
      · have e1 := cmp_eq h_39
        generalize hx : p - p / q * q = x at f1 e1
        generalize hy : r - r / s * s = y at f2 e1
        rw [e1] at he
        have k1 : 0 < x → y = 0 → 0 < x * s - y * q := fun h1 h2 => by
          have := Int.mul_pos h1 hs.1
          rw [h2, Int.zero_mul]; omega
        have k2 : x = 0 → 0 < y → x * s - y * q < 0 := fun h1 h2 => by
          have := Int.mul_pos h2 hq.1
          rw [h1, Int.zero_mul]; omega
        have end94 : ∀ y1 y2, (x = 0 ∨ y = 0) → zW X (zR 1 0 0) E (μ) 0 0 Q 94 [some (.long (zJ a)), none, some (.long (zJ b)), none, some (.long (zJ c)), none, some (.long (zJ d)), none, some (.long (zJ p)), none, some (.long (zJ q)), none, some (.long (zJ r)), none, some (.long (zJ s)), none, some (.int (zI g)), y1, none, y2, none, some (.long (zJ x)), none, some (.long (zJ y)), none] [] := by
          intro y1 y2 hz
          refine z_lload hX rfl dX1_compares_94 ?_
          refine z_lload hX rfl dX1_compares_96 ?_
          refine z_lcmp_ne hX (by omega) (by omega) dX1_compares_98 dX1_compares_99 (tgt := 106) rfl (fun h_98 => ?_) (fun h_98 => ?_)
          · refine z_lload hX rfl dX1_compares_106 ?_
            refine z_lconst hX (z := 0) (by decide) dX1_compares_108 ?_
            refine z_lcmp_ne hX (by omega) (by omega) dX1_compares_109 dX1_compares_110 (tgt := 119) rfl (fun h_109 => ?_) (fun h_109 => ?_)
            · have h5 := k1 (by omega) (by omega)
              rw [gsg_gt h5] at he
              refine z_iload hX rfl dX1_compares_119 ?_
              (try rw [← hQ])
              refine z_ireturn hX dX1_compares_121 (by omega) (by omega) ?_
              exact ⟨rfl, by omega⟩
            · have h5 := k2 (by omega) (by omega)
              rw [gsg_lt h5] at he
              refine z_iload hX rfl dX1_compares_113 ?_
              refine z_ineg hX dX1_compares_115 ?_
              refine z_goto hX (tgt := 121) dX1_compares_116 rfl ?_
              (try rw [← hQ])
              refine z_ireturn hX dX1_compares_121 (by omega) (by omega) ?_
              exact ⟨rfl, by omega⟩
          · have hx0 : x = 0 := by omega
            have hy0 : y = 0 := by omega
            rw [hx0, hy0, Int.zero_mul, Int.zero_mul, Int.sub_self, gsg_0] at he
            refine z_iconst hX dX1_compares_102 ?_
            refine z_goto hX (tgt := 121) dX1_compares_103 rfl ?_
            (try rw [← hQ])
            refine z_ireturn hX dX1_compares_121 (by omega) (by omega) ?_
            exact ⟨rfl, by omega⟩
        refine z_lload hX rfl dX1_compares_60 ?_
        refine z_lload hX rfl dX1_compares_62 ?_
        refine z_lload hX rfl dX1_compares_64 ?_
        refine z_lmul hX dX1_compares_66 ?_
        refine z_lsub hX dX1_compares_67 ?_
        refine z_lstore hX (lv' := [_, _, _, _, _, _, _, _, _, _, _, _, _, _, _, _, _, _, _, _, _, _, _, _, _]) (Nat.le_of_ble_eq_true rfl) (by first | exact zpre_0 | exact zpre_n rfl | exact zpre_1 rfl rfl | exact zpre_1 rfl (va_rf_c _)) rfl rfl dX1_compares_68 ?_
        refine z_lload hX rfl dX1_compares_70 ?_
        refine z_lload hX rfl dX1_compares_72 ?_
        refine z_lload hX rfl dX1_compares_74 ?_
        refine z_lmul hX dX1_compares_76 ?_
        refine z_lsub hX dX1_compares_77 ?_
        refine z_lstore hX (lv' := [_, _, _, _, _, _, _, _, _, _, _, _, _, _, _, _, _, _, _, _, _, _, _, _, _]) (Nat.le_of_ble_eq_true rfl) (by first | exact zpre_0 | exact zpre_n rfl | exact zpre_1 rfl rfl | exact zpre_1 rfl (va_rf_c _)) rfl rfl dX1_compares_78 ?_
        rw [hx, hy]
        refine z_lload hX rfl dX1_compares_80 ?_
        refine z_lconst hX (z := 0) (by decide) dX1_compares_82 ?_
        refine z_lcmp_eq hX (by omega) (by omega) dX1_compares_83 dX1_compares_84 (tgt := 94) rfl (fun h_83 => ?_) (fun h_83 => ?_)
        · exact end94 _ _ (Or.inl h_83)
        · refine z_lload hX rfl dX1_compares_87 ?_
          refine z_lconst hX (z := 0) (by decide) dX1_compares_89 ?_
          refine z_lcmp_ne hX (by omega) (by omega) dX1_compares_90 dX1_compares_91 (tgt := 122) rfl (fun h_90 => ?_) (fun h_90 => ?_)
          · refine z_lload hX rfl dX1_compares_122 ?_
            refine z_lstore hX (lv' := [_, _, _, _, _, _, _, _, _, _, _, _, _, _, _, _, _, _, _, _, _, _, _, _, _]) (Nat.le_of_ble_eq_true rfl) (by first | exact zpre_0 | exact zpre_n rfl | exact zpre_1 rfl rfl | exact zpre_1 rfl (va_rf_c _)) rfl rfl dX1_compares_124 ?_
            refine z_lload hX rfl dX1_compares_126 ?_
            refine z_lstore hX (lv' := [_, _, _, _, _, _, _, _, _, _, _, _, _, _, _, _, _, _, _, _, _, _, _, _, _]) (Nat.le_of_ble_eq_true rfl) (by first | exact zpre_0 | exact zpre_n rfl | exact zpre_1 rfl rfl | exact zpre_1 rfl (va_rf_c _)) rfl rfl dX1_compares_128 ?_
            refine z_lload hX rfl dX1_compares_130 ?_
            refine z_lstore hX (lv' := [_, _, _, _, _, _, _, _, _, _, _, _, _, _, _, _, _, _, _, _, _, _, _, _, _]) (Nat.le_of_ble_eq_true rfl) (by first | exact zpre_0 | exact zpre_n rfl | exact zpre_1 rfl rfl | exact zpre_1 rfl (va_rf_c _)) rfl rfl dX1_compares_132 ?_
            refine z_lload hX rfl dX1_compares_134 ?_
            refine z_lstore hX (lv' := [_, _, _, _, _, _, _, _, _, _, _, _, _, _, _, _, _, _, _, _, _, _, _, _, _]) (Nat.le_of_ble_eq_true rfl) (by first | exact zpre_0 | exact zpre_n rfl | exact zpre_1 rfl rfl | exact zpre_1 rfl (va_rf_c _)) rfl rfl dX1_compares_136 ?_
            refine z_iload hX rfl dX1_compares_138 ?_
            refine z_ineg hX dX1_compares_140 ?_
            refine z_istore hX (lv' := [_, _, _, _, _, _, _, _, _, _, _, _, _, _, _, _, _, _, _, _, _, _, _, _, _]) (Nat.le_of_ble_eq_true rfl) (by first | exact zpre_0 | exact zpre_n rfl | exact zpre_1 rfl rfl | exact zpre_1 rfl (va_rf_c _)) rfl dX1_compares_141 ?_
            refine z_goto hX (tgt := 17) dX1_compares_143 rfl ?_
            refine ih q x s y (-g) (by omega) (by omega) (by omega) (by omega) (by omega) (by omega) ?_ _ _ _ _
            rw [← he, show q * y - s * x = -(x * s - y * q) by rw [Int.mul_comm q y, Int.mul_comm s x]; omega, gsg_neg, Int.neg_mul_neg]
          · exact end94 _ _ (Or.inr h_90)
      · have e1 := cmp_ne hq.1 hs.1 h_39
        refine z_lload hX rfl dX1_compares_43 ?_
        refine z_lload hX rfl dX1_compares_45 ?_
        refine z_lcmp_ge hX (by omega) (by omega) dX1_compares_47 dX1_compares_48 (tgt := 57) rfl (fun h_47 => ?_) (fun h_47 => ?_)
        · rw [if_neg (by omega)] at e1
          rw [e1] at he
          refine z_iload hX rfl dX1_compares_57 ?_
          (try rw [← hQ])
          refine z_ireturn hX dX1_compares_59 (by omega) (by omega) ?_
          exact ⟨rfl, by omega⟩
        · rw [if_pos (by omega)] at e1
          rw [e1] at he
          refine z_iload hX rfl dX1_compares_51 ?_
          refine z_ineg hX dX1_compares_53 ?_
          refine z_goto hX (tgt := 59) dX1_compares_54 rfl ?_
          (try rw [← hQ])
          refine z_ireturn hX dX1_compares_59 (by omega) (by omega) ?_
          exact ⟨rfl, by omega⟩
  refine z_lload_n hX rfl dX1_compares_0 ?_
  refine z_lstore hX (lv' := [_, _, _, _, _, _, _, _, _, _, _, _, _, _, _, _, _, _, _, _, _, _, _, _, _]) (Nat.le_of_ble_eq_true rfl) (by first | exact zpre_0 | exact zpre_n rfl | exact zpre_1 rfl rfl | exact zpre_1 rfl (va_rf_c _)) rfl rfl dX1_compares_1 ?_
  refine z_lload_n hX rfl dX1_compares_3 ?_
  refine z_lstore hX (lv' := [_, _, _, _, _, _, _, _, _, _, _, _, _, _, _, _, _, _, _, _, _, _, _, _, _]) (Nat.le_of_ble_eq_true rfl) (by first | exact zpre_0 | exact zpre_n rfl | exact zpre_1 rfl rfl | exact zpre_1 rfl (va_rf_c _)) rfl rfl dX1_compares_4 ?_
  refine z_lload hX rfl dX1_compares_6 ?_
  refine z_lstore hX (lv' := [_, _, _, _, _, _, _, _, _, _, _, _, _, _, _, _, _, _, _, _, _, _, _, _, _]) (Nat.le_of_ble_eq_true rfl) (by first | exact zpre_0 | exact zpre_n rfl | exact zpre_1 rfl rfl | exact zpre_1 rfl (va_rf_c _)) rfl rfl dX1_compares_8 ?_
  refine z_lload hX rfl dX1_compares_10 ?_
  refine z_lstore hX (lv' := [_, _, _, _, _, _, _, _, _, _, _, _, _, _, _, _, _, _, _, _, _, _, _, _, _]) (Nat.le_of_ble_eq_true rfl) (by first | exact zpre_0 | exact zpre_n rfl | exact zpre_1 rfl rfl | exact zpre_1 rfl (va_rf_c _)) rfl rfl dX1_compares_12 ?_
  refine z_iconst hX dX1_compares_14 ?_
  refine z_istore hX (lv' := [_, _, _, _, _, _, _, _, _, _, _, _, _, _, _, _, _, _, _, _, _, _, _, _, _]) (Nat.le_of_ble_eq_true rfl) (by first | exact zpre_0 | exact zpre_n rfl | exact zpre_1 rfl rfl | exact zpre_1 rfl (va_rf_c _)) rfl dX1_compares_15 ?_
  exact loop (b.toNat + 1) a b c d 1 (by omega) ha hb hc hd (by omega) (by omega) none none none none
