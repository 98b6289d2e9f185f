/-! MODEL 4: the search for walks -/
set_option maxRecDepth 100000
theorem m_starts (l : Launch) (E : zE) {ν : zM} {m0 : Nat} {ad : Nat → Nat} {s : Nat → Int} {A : Nat → Int → Int} (hD : mD m0 ad) {f z : Int} (hf : 0 ≤ f ∧ f < 8) (hz : 0 ≤ z ∧ z < 8) : Met l yX1_starts (ws_ yX1_starts cX1_starts 3 none) (zR 0 0 0) (va_Pc [.ref m0, .int (zI f), .int (zI z)] (zPre E (mM E ν m0 ad s A))) (zQv E (fun μ' => ∃ t, mM E ν m0 ad (zg (zg (zg (zg s 18 0) 20 f) 21 z) 19 t) A = μ' ∧ gM t (fun v => if f = z then decide (v ≤ f) else decide (v = f)))) 0 0 (zA E) := by
  refine zmet (cc := cX1_starts) [_, _, _] (by decide) (Nat.le_of_ble_eq_true rfl) rfl rfl ?_
  intro X hl hX hinit; subst hl
  have hX : zOK X _ cX1_starts RX1 none 3 := hX
  refine z_aload_n hX rfl (by first | rfl | exact va_rf_r _) dX1_starts_0 ?_
  refine z_iconst hX dX1_starts_1 ?_
  refine zm_puti hX hD 18 (by decide) q1388 dX1_starts_2 rfl mset_18 ?_
  refine z_aload_n hX rfl (by first | rfl | exact va_rf_r _) dX1_starts_5 ?_
  refine z_iload_n hX rfl dX1_starts_6 ?_
  refine zm_puti hX hD 20 (by decide) q1390 dX1_starts_7 rfl mset_20 ?_
  refine z_aload_n hX rfl (by first | rfl | exact va_rf_r _) dX1_starts_10 ?_
  refine z_iload_n hX rfl dX1_starts_11 ?_
  refine zm_puti hX hD 21 (by decide) q1391 dX1_starts_12 rfl mset_21 ?_
  refine z_aload_n hX rfl (by first | rfl | exact va_rf_r _) dX1_starts_15 ?_
  refine z_iload_n hX rfl dX1_starts_16 ?_
  refine z_iload_n hX rfl dX1_starts_17 ?_
  refine z_icmp_ne hX (by omega) (by omega) dX1_starts_18 (tgt := 31) rfl (fun h_18 => ?_) (fun h_18 => ?_)
  · refine z_iconst hX dX1_starts_31 ?_
    refine z_iload_n hX rfl dX1_starts_32 ?_
    refine z_ishl hX (z := ((2^f.toNat:Nat):Int)) (zshlI (by omega) (by omega)) dX1_starts_33 ?_
    refine zm_puti hX hD 19 (by decide) q1389 dX1_starts_34 rfl mset_19 ?_
    (try rw [← hQ])
    refine z_return hX dX1_starts_37 (by omega) (by omega) ?_
    refine ⟨_, rfl, ?_⟩
    simp only [if_neg h_18]
    exact gM_one hf.1 hf.2
  · refine z_iconst hX dX1_starts_21 ?_
    refine z_iload_n hX rfl dX1_starts_22 ?_
    refine z_iconst hX dX1_starts_23 ?_
    refine z_iadd hX dX1_starts_24 ?_
    refine z_ishl hX (z := ((2^(f+1).toNat:Nat):Int)) (zshlI (by omega) (by omega)) dX1_starts_25 ?_
    refine z_iconst hX dX1_starts_26 ?_
    refine z_isub hX dX1_starts_27 ?_
    refine z_goto hX (tgt := 34) dX1_starts_28 rfl ?_
    refine zm_puti hX hD 19 (by decide) q1389 dX1_starts_34 rfl mset_19 ?_
    (try rw [← hQ])
    refine z_return hX dX1_starts_37 (by omega) (by omega) ?_
    refine ⟨_, rfl, ?_⟩
    simp only [if_pos h_18]
    have h := gM_low hf.1 hf.2
    rw [show ((2 ^ (f + 1).toNat - 1 : Nat) : Int) = ((2 ^ (f + 1).toNat : Nat) : Int) - 1 from by
      have : 0 < 2 ^ (f + 1).toNat := Nat.pow_pos (by omega)
      omega] at h
    exact h
def hereV (s : Nat → Int) (A : Nat → Int → Int) : Int := if s 18 = 0 then s 20 else A 0 (7 * A 17 (s 18 - 1) + 1)
theorem m_here (l : Launch) (E : zE) {ν : zM} {m0 : Nat} {ad : Nat → Nat} {s : Nat → Int} {A : Nat → Int → Int} (hD : mD m0 ad) (hs : 0 ≤ s 18 ∧ s 18 ≤ 8) (hw : s 18 ≠ 0 → 0 ≤ A 17 (s 18 - 1) ∧ A 17 (s 18 - 1) < 16) : Met l yX1_here (ws_ yX1_here cX1_here 1 (some .int)) (zR 2 0 0) (va_Pc [.ref m0] (zPre E (mM E ν m0 ad s A))) (zQi E (fun r μ' => mM E ν m0 ad s A = μ' ∧ hereV s A = r)) 0 0 (zA E) := by
  refine zmet (cc := cX1_here) [_] (by decide) (Nat.le_of_ble_eq_true rfl) rfl rfl ?_
  intro X hl hX hinit; subst hl
  have hX : zOK X _ cX1_here RX1 (some .int) 1 := hX
  refine z_aload_n hX rfl (by first | rfl | exact va_rf_r _) dX1_here_0 ?_
  refine zm_get hX 18 (by decide) q1388 dX1_here_1 rfl rfl ?_
  refine z_if_ne hX (by omega) dX1_here_4 (tgt := 14) rfl (fun h_4 => ?_) (fun h_4 => ?_)
  · have h := hw h_4
    refine z_aload_n hX rfl (by first | rfl | exact va_rf_r _) dX1_here_14 ?_
    refine z_aload_n hX rfl (by first | rfl | exact va_rf_r _) dX1_here_15 ?_
    refine zm_get hX 17 (by decide) q1387 dX1_here_16 rfl rfl ?_
    refine z_aload_n hX rfl (by first | rfl | exact va_rf_r _) dX1_here_19 ?_
    refine zm_get hX 18 (by decide) q1388 dX1_here_20 rfl rfl ?_
    refine z_iconst hX dX1_here_23 ?_
    refine z_isub hX dX1_here_24 ?_
    refine zm_iaload hX hD 17 (by decide) (by decide) 8 rfl dX1_here_25 (by omega) ?_
    refine z_iconst hX dX1_here_26 ?_
    refine z_calli (z_runV hX (m_of _ _ hD (by omega)) (cwV 2 hX.ts (lw_V q1529 q1531 qs34 q71 q1532) rfl rfl rfl (by decide +kernel) (zroom (by decide) (by decide))) dX1_here_27 mM_0 (ci := 1) rfl rfl rfl rfl (by first | exact Nat.le_of_ble_eq_true rfl | simp [va_rf_c, Value.category]) (zhf (by omega) (by omega))) (fun r_27 μ_27 h_27 => ?_)
    obtain ⟨rfl, rfl⟩ := h_27
    (try rw [← hQ])
    refine z_ireturn hX dX1_here_30 (by omega) (by omega) ?_
    exact ⟨rfl, by rw [hereV, if_neg h_4]⟩
  · refine z_aload_n hX rfl (by first | rfl | exact va_rf_r _) dX1_here_7 ?_
    refine zm_get hX 20 (by decide) q1390 dX1_here_8 rfl rfl ?_
    refine z_goto hX (tgt := 30) dX1_here_11 rfl ?_
    (try rw [← hQ])
    refine z_ireturn hX dX1_here_30 (by omega) (by omega) ?_
    exact ⟨rfl, by rw [hereV, if_pos h_4]⟩
theorem m_forth (l : Launch) (E : zE) {ν : zM} {m0 : Nat} {ad : Nat → Nat} {s : Nat → Int} {A : Nat → Int → Int} (hD : mD m0 ad) (hg : gV (A 0)) (hs : 0 ≤ s 18 ∧ s 18 ≤ 7) (hw : s 18 ≠ 0 → 0 ≤ A 17 (s 18 - 1) ∧ A 17 (s 18 - 1) < A 0 112) (h20 : 0 ≤ s 20 ∧ s 20 < 8) (h21 : 0 ≤ s 21 ∧ s 21 < 8) {T : Int → Bool} (hT : gM (s 19) T) {k : Int} (hk : 0 ≤ k ∧ k ≤ A 0 112) : Met l yX1_forth (ws_ yX1_forth cX1_forth 5 (some .boolean)) (zR 3 0 0) (va_Pc [.ref m0, .int (zI k)] (zPre E (mM E ν m0 ad s A))) (zQb E (fun r μ' => (r = true ∧ ∃ e t, k ≤ e ∧ e < A 0 112 ∧ (∀ j, k ≤ j → j < e → gok (A 0) (s 21) T (hereV s A) j = false) ∧ gok (A 0) (s 21) T (hereV s A) e = true ∧ gM t (if A 0 (7 * e + 1) = s 21 then T else gtk T (A 0 (7 * e + 1))) ∧ mM E ν m0 ad (zg (zg s 18 (s 18 + 1)) 19 t) (zg A 17 (zf (A 17) (s 18) e)) = μ') ∨
    (r = false ∧ (∀ j, k ≤ j → j < A 0 112 → gok (A 0) (s 21) T (hereV s A) j = false) ∧ mM E ν m0 ad s A = μ'))) 0 0 (zA E) := by
  have hn := hg.1
  have h19 := gM_r hT
  refine zmet (cc := cX1_forth) [_, _, _, _, _] (by decide) (Nat.le_of_ble_eq_true rfl) rfl rfl ?_
  intro X hl hX hinit; subst hl
  have hX : zOK X _ cX1_forth RX1 (some .boolean) 5 := hX
  generalize hQ : MQ _ _ _ _ _ _ _ = Q
  have loop : ∀ (n : Nat) (i : Int), k ≤ i → i ≤ A 0 112 → A 0 112 < i + n → iR (hereV s A) → (∀ j, k ≤ j → j < i → gok (A 0) (s 21) T (hereV s A) j = false) → ∀ x, zW X (zR 3 0 0) E (mM E ν m0 ad s A) 0 0 Q 7 [some (.ref m0), some (.int (zI k)), some (.int (zI (hereV s A))), some (.int (zI i)), x] [] := by
    intro n
    induction n with
    | zero => intros; exfalso; omega
    | succ n ih =>
      intro i h0 h1 hn2 hvr hno x
      refine zW.mask [true, true, true, true, false] (lv' := [_, _, _, _, none]) rfl ?_
      refine z_iload_n hX rfl dX1_forth_7 ?_
      refine z_aload_n hX rfl (by first | rfl | exact va_rf_r _) dX1_forth_8 ?_
      refine zm_get hX 0 (by decide) q1370 dX1_forth_9 rfl rfl ?_
      refine z_bipush hX (by decide) dX1_forth_12 ?_
      refine zm_iaload hX hD 0 (by decide) (by decide) 113 rfl dX1_forth_14 (by omega) ?_
      refine z_icmp_ge hX (by omega) (by omega) dX1_forth_15 (tgt := 111) rfl (fun h_15 => ?_) (fun h_15 => ?_)
      · obtain rfl : i = A 0 112 := by omega
        refine z_iconst hX dX1_forth_111 ?_
        (try rw [← hQ])
        first | refine z_breturn hX true dX1_forth_112 (by omega) (by omega) ?_ | refine z_breturn hX false dX1_forth_112 (by omega) (by omega) ?_ | refine z_breturn hX _ dX1_forth_112 (by omega) (by omega) ?_
        exact Or.inr ⟨rfl, hno, rfl⟩
      · have hv := hg.2 i (by omega) (by omega)
        unfold eV at hv
        have next : gok (A 0) (s 21) T (hereV s A) i = false → ∀ y, zW X (zR 3 0 0) E (mM E ν m0 ad s A) 0 0 Q 105 [some (.ref m0), some (.int (zI k)), some (.int (zI (hereV s A))), some (.int (zI i)), y] [] := by
          intro hq y
          refine zW.mask [true, true, true, true, false] (lv' := [_, _, _, _, none]) rfl ?_
          refine z_iinc hX (lv' := [_, _, _, _, _]) rfl (Nat.le_of_ble_eq_true rfl) (by first | exact zpre_0 | exact zpre_n rfl | exact zpre_1 rfl rfl | exact zpre_1 rfl (va_rf_c _)) rfl dX1_forth_105 ?_
          refine z_goto hX (tgt := 7) dX1_forth_108 rfl ?_
          refine ih (i + 1) (by omega) (by omega) (by omega) hvr (fun j h2 h3 => ?_) _
          rcases Int.lt_or_eq_of_le (show j ≤ i by omega) with h4 | h4
          · exact hno j h2 h4
          · rw [h4]; exact hq
        have push : gok (A 0) (s 21) T (hereV s A) i = true → zW X (zR 3 0 0) E (mM E ν m0 ad s A) 0 0 Q 57 [some (.ref m0), some (.int (zI k)), some (.int (zI (hereV s A))), some (.int (zI i)), some (.int (zI (A 0 (7 * i + 1))))] [] := by
          intro hq
          have e17 : ∀ (v : Int), zg s 18 v 19 = s 19 := fun v => zg_n (by decide)
          have e21 : ∀ (v : Int), zg s 18 v 21 = s 21 := fun v => zg_n (by decide)
          have f21 := e21 (s 18 + 1)
          refine z_aload_n hX rfl (by first | rfl | exact va_rf_r _) dX1_forth_57 ?_
          refine zm_get hX 17 (by decide) q1387 dX1_forth_58 rfl rfl ?_
          refine z_aload_n hX rfl (by first | rfl | exact va_rf_r _) dX1_forth_61 ?_
          refine zm_get hX 18 (by decide) q1388 dX1_forth_62 rfl rfl ?_
          refine z_iload_n hX rfl dX1_forth_65 ?_
          refine zm_iastore hX hD 17 (by decide) (by decide) 8 rfl dX1_forth_66 (by omega) ?_
          refine z_aload_n hX rfl (by first | rfl | exact va_rf_r _) dX1_forth_67 ?_
          refine z_dup hX (by first | rfl | exact va_rf_c _) dX1_forth_68 ?_
          refine zm_get hX 18 (by decide) q1388 dX1_forth_69 rfl rfl ?_
          refine z_iconst hX dX1_forth_72 ?_
          refine z_iadd hX dX1_forth_73 ?_
          refine zm_puti hX hD 18 (by decide) q1388 dX1_forth_74 rfl mset_18 ?_
          refine z_aload_n hX rfl (by first | rfl | exact va_rf_r _) dX1_forth_77 ?_
          refine z_dup hX (by first | rfl | exact va_rf_c _) dX1_forth_78 ?_
          refine zm_get hX 19 (by decide) q1389 dX1_forth_79 rfl rfl ?_
          refine z_iload hX rfl dX1_forth_82 ?_
          refine z_aload_n hX rfl (by first | rfl | exact va_rf_r _) dX1_forth_84 ?_
          refine zm_get hX 21 (by decide) q1391 dX1_forth_85 rfl rfl ?_
          refine z_icmp_ne hX (by omega) (by omega) dX1_forth_88 (tgt := 95) rfl (fun h_88 => ?_) (fun h_88 => ?_)
          · rw [e21] at h_88
            obtain ⟨t, ht1, ht2, ht3⟩ := gM_push hT hv.2.1.1 (by omega : A 0 (7 * i + 1) < 8)
            refine z_iconst hX dX1_forth_95 ?_
            refine z_iload hX rfl dX1_forth_96 ?_
            refine z_ishl hX (z := ((2^(A 0 (7 * i + 1)).toNat:Nat):Int)) (zshlI (by omega) (by omega)) dX1_forth_98 ?_
            refine z_ior hX (z := t) (by rw [e17]; exact ht1) dX1_forth_99 ?_
            refine zm_puti hX hD 19 (by decide) q1389 dX1_forth_100 rfl mset_19 ?_
            refine z_iconst hX dX1_forth_103 ?_
            (try rw [← hQ])
            first | refine z_breturn hX true dX1_forth_104 (by omega) (by omega) ?_ | refine z_breturn hX false dX1_forth_104 (by omega) (by omega) ?_ | refine z_breturn hX _ dX1_forth_104 (by omega) (by omega) ?_
            refine Or.inl ⟨rfl, i, t, h0, by omega, hno, hq, ?_, rfl⟩
            rw [if_neg h_88]; exact ht2
          · rw [e21] at h_88
            refine z_iconst hX dX1_forth_91 ?_
            refine z_goto hX (tgt := 99) dX1_forth_92 rfl ?_
            refine z_ior hX (z := (s 19)) (by rw [e17]; exact zor0 _ h19.1) dX1_forth_99 ?_
            refine zm_puti hX hD 19 (by decide) q1389 dX1_forth_100 rfl mset_19 ?_
            refine z_iconst hX dX1_forth_103 ?_
            (try rw [← hQ])
            first | refine z_breturn hX true dX1_forth_104 (by omega) (by omega) ?_ | refine z_breturn hX false dX1_forth_104 (by omega) (by omega) ?_ | refine z_breturn hX _ dX1_forth_104 (by omega) (by omega) ?_
            refine Or.inl ⟨rfl, i, s 19, h0, by omega, hno, hq, ?_, rfl⟩
            rw [if_pos h_88]; exact hT
        refine z_aload_n hX rfl (by first | rfl | exact va_rf_r _) dX1_forth_18 ?_
        refine z_iload_n hX rfl dX1_forth_19 ?_
        refine z_iconst hX dX1_forth_20 ?_
        refine z_calli (z_runV hX (m_of _ _ hD (by omega)) (cwV 2 hX.ts (lw_V q1529 q1531 qs34 q71 q1532) rfl rfl rfl (by decide +kernel) (zroom (by decide) (by decide))) dX1_forth_21 mM_0 (ci := 1) rfl rfl rfl rfl (by first | exact Nat.le_of_ble_eq_true rfl | simp [va_rf_c, Value.category]) (zhf (by omega) (by omega))) (fun r_21 μ_21 h_21 => ?_)
        obtain ⟨rfl, rfl⟩ := h_21
        refine z_istore hX (lv' := [_, _, _, _, _]) (Nat.le_of_ble_eq_true rfl) (by first | exact zpre_0 | exact zpre_n rfl | exact zpre_1 rfl rfl | exact zpre_1 rfl (va_rf_c _)) rfl dX1_forth_24 ?_
        refine z_aload_n hX rfl (by first | rfl | exact va_rf_r _) dX1_forth_26 ?_
        refine z_iload_n hX rfl dX1_forth_27 ?_
        refine z_iconst hX dX1_forth_28 ?_
        refine z_calli (z_runV hX (m_of0 _ _ hD (by omega)) (cwV 2 hX.ts (lw_V q1529 q1531 qs34 q71 q1532) rfl rfl rfl (by decide +kernel) (zroom (by decide) (by decide))) dX1_forth_29 mM_0 (ci := 1) rfl rfl rfl rfl (by first | exact Nat.le_of_ble_eq_true rfl | simp [va_rf_c, Value.category]) (zhf (by omega) (by omega))) (fun r_29 μ_29 h_29 => ?_)
        obtain ⟨rfl, rfl⟩ := h_29
        refine z_iload_n hX rfl dX1_forth_32 ?_
        refine z_icmp_ne hX (by omega) (by omega) dX1_forth_33 (tgt := 105) rfl (fun h_33 => ?_) (fun h_33 => ?_)
        · refine next ?_ _
          rw [gok]
          simp [h_33]
        · refine z_iload hX rfl dX1_forth_36 ?_
          refine z_aload_n hX rfl (by first | rfl | exact va_rf_r _) dX1_forth_38 ?_
          refine zm_get hX 21 (by decide) q1391 dX1_forth_39 rfl rfl ?_
          refine z_icmp_eq hX (by omega) (by omega) dX1_forth_42 (tgt := 57) rfl (fun h_42 => ?_) (fun h_42 => ?_)
          · refine push ?_
            rw [gok_iff]
            exact ⟨h_33, Or.inl h_42⟩
          · obtain ⟨M, hM31, eM, hsh, hbit⟩ := gM_test hT hv.2.1.1 (by omega : A 0 (7 * i + 1) < 8)
            refine z_aload_n hX rfl (by first | rfl | exact va_rf_r _) dX1_forth_45 ?_
            refine zm_get hX 19 (by decide) q1389 dX1_forth_46 rfl rfl ?_
            refine z_iload hX rfl dX1_forth_49 ?_
            refine z_ishr hX (z := ((M / 2 ^ (A 0 (7 * i + 1)).toNat : Nat):Int)) hsh dX1_forth_51 ?_
            refine z_iconst hX dX1_forth_52 ?_
            refine z_iand hX (z := ((M / 2 ^ (A 0 (7 * i + 1)).toNat % 2 : Nat):Int)) (zand1 _) dX1_forth_53 ?_
            refine z_if_ne hX (by omega) dX1_forth_54 (tgt := 105) rfl (fun h_54 => ?_) (fun h_54 => ?_)
            · refine next ?_ _
              rw [gok]
              by_cases hc : T (A 0 (7 * i + 1)) = true
              · simp [hc, h_42]
              · rw [if_neg hc] at hbit
                exact absurd (by omega) h_54
            · refine push ?_
              rw [gok_iff]
              refine ⟨h_33, Or.inr ?_⟩
              by_cases hc : T (A 0 (7 * i + 1)) = true
              · rw [if_pos hc] at hbit
                omega
              · simpa using hc
  have hvr : iR (hereV s A) := by
    unfold hereV
    split
    · omega
    · have h := hw (by assumption)
      have h2 := hg.2 _ h.1 h.2
      unfold eV at h2
      omega
  refine z_aload_n hX rfl (by first | rfl | exact va_rf_r _) dX1_forth_0 ?_
  refine z_calli (z_runV hX (m_here _ _ hD (by omega) (fun q => by have := hw q; omega)) (cwV 0 hX.ts (lw_V q1615 q1617 qs46 q71 q1618) rfl rfl rfl (by decide +kernel) (zroom (by decide) (by decide))) dX1_forth_1 mM_0 (ci := 1) rfl rfl rfl rfl (by first | exact Nat.le_of_ble_eq_true rfl | simp [va_rf_c, Value.category]) (zhf (by omega) (by omega))) (fun r_1 μ_1 h_1 => ?_)
  obtain ⟨rfl, rfl⟩ := h_1
  refine z_istore_n hX (lv' := [_, _, _, _, _]) (Nat.le_of_ble_eq_true rfl) (by first | exact zpre_0 | exact zpre_n rfl | exact zpre_1 rfl rfl | exact zpre_1 rfl (va_rf_c _)) rfl dX1_forth_4 ?_
  refine z_iload_n hX rfl dX1_forth_5 ?_
  refine z_istore_n hX (lv' := [_, _, _, _, _]) (Nat.le_of_ble_eq_true rfl) (by first | exact zpre_0 | exact zpre_n rfl | exact zpre_1 rfl rfl | exact zpre_1 rfl (va_rf_c _)) rfl dX1_forth_6 ?_
  exact loop (A 0 112 - k + 1).toNat k (by omega) (by omega) (by omega) hvr (fun j h1 h2 => absurd h1 (by omega)) none
/-- the search's two numbers, steps and taken -/
def st2 (s : Nat → Int) (x t : Int) : Nat → Int := zg (zg s 18 x) 19 t
theorem st2_18 (s : Nat → Int) (x t : Int) : st2 s x t 18 = x := by rw [st2, zg_n (by decide), zg_s]
theorem st2_19 (s : Nat → Int) (x t : Int) : st2 s x t 19 = t := by rw [st2, zg_s]
theorem st2_n (s : Nat → Int) (x t : Int) {k : Nat} (h1 : k ≠ 18) (h2 : k ≠ 19) : st2 s x t k = s k := by rw [st2, zg_n h2, zg_n h1]
theorem st2_a (s : Nat → Int) (x t y : Int) : zg (st2 s x t) 18 y = st2 s y t := by
  funext k
  by_cases h1 : k = 18
  · subst h1; rw [zg_s, st2_18]
  · rw [zg_n h1]
    by_cases h2 : k = 19
    · subst h2; rw [st2_19, st2_19]
    · rw [st2_n _ _ _ h1 h2, st2_n _ _ _ h1 h2]
theorem st2_b (s : Nat → Int) (x t y : Int) : zg (st2 s x t) 19 y = st2 s x y := by rw [st2, zg_zg]; rfl
theorem st2_id (s : Nat → Int) : st2 s (s 18) (s 19) = s := by
  funext k
  by_cases h1 : k = 18
  · subst h1; rw [st2_18]
  · by_cases h2 : k = 19
    · subst h2; rw [st2_19]
    · rw [st2_n _ _ _ h1 h2]
theorem zg_id {α : Type} (f : Nat → α) (k : Nat) : zg f k (f k) = f := by
  funext j
  by_cases h : j = k
  · subst h; rw [zg_s]
  · rw [zg_n h]
/-- the model stands behind the walk with these frames -/
def sW (a : Int → Int) (f z : Int) (T0 : Int → Bool) (fs : List gF) (x t : Int) (w : Int → Int) : Prop := x = fs.length ∧ wk w fs ∧ gM t (cT a z T0 fs) ∧ FV a z (a 112) f T0 fs
theorem hereV_W {s : Nat → Int} {A : Nat → Int → Int} {f z : Int} {T0 : Int → Bool} {fs : List gF} {x t : Int} {w : Int → Int} (h20 : s 20 = f) (h : sW (A 0) f z T0 fs x t w) : hereV (st2 s x t) (zg A 17 w) = cV (A 0) f fs ∧ (st2 s x t 18 ≠ 0 → 0 ≤ (zg A 17 w) 17 (st2 s x t 18 - 1) ∧ (zg A 17 w) 17 (st2 s x t 18 - 1) < A 0 112) := by
  obtain ⟨h1, h2, h3, h4⟩ := h
  rw [hereV, st2_18, st2_n _ _ _ (by decide) (by decide), zg_s, zg_n (by decide)]
  cases fs with
  | nil => simp [h1, cV, h20]
  | cons fr fs =>
    obtain ⟨e, T, v⟩ := fr
    have h5 : x - 1 = (fs.length : Int) := by rw [h1]; simp
    have h6 : x ≠ 0 := by rw [h1]; simp only [List.length_cons]; omega
    rw [if_neg h6, h5, h2.1]
    exact ⟨rfl, fun _ => h4.2.2.2.1⟩
def gL (a : Int → Int) (z f : Int) (T0 : Int → Bool) (fs : List gF) (k : Int) : List (List Int) := (gS a z (er 0 (a 112)) (7 - fs.length) (cT a z T0 fs) (cV a f fs) (er k (a 112))).map (gpre fs ++ ·) ++ gR a z (a 112) fs
def gWL (a : Int → Int) (z f : Int) (T0 : Int → Bool) (fs : List gF) (k : Int) : Nat := gwS a z (er 0 (a 112)) (7 - fs.length) (cT a z T0 fs) (cV a f fs) (er k (a 112)) + gwR a z (a 112) fs
/-- what goesOn answers, the walks still to come being L -/
def goP (E : zE) (ν : zM) (m0 : Nat) (ad : Nat → Nat) (s : Nat → Int) (A : Nat → Int → Int) (f z : Int) (T0 : Int → Bool) (L : List (List Int)) (r : Bool) (μ' : zM) : Prop :=
  (r = false ∧ L = [] ∧ ∃ x t w, mM E ν m0 ad (st2 s x t) (zg A 17 w) = μ') ∨
  (r = true ∧ ∃ fs x t w, L = gpre fs :: gR (A 0) z (A 0 112) fs ∧ ¬ cO (A 0) z fs ∧ sW (A 0) f z T0 fs x t w ∧ mM E ν m0 ad (st2 s x t) (zg A 17 w) = μ')
theorem m_goesOn (l : Launch) (E : zE) {ν : zM} {m0 : Nat} {ad : Nat → Nat} {s : Nat → Int} {A : Nat → Int → Int} (hD : mD m0 ad) (hg : gV (A 0)) {f z : Int} (hf : 0 ≤ f ∧ f < 8) (hz : 0 ≤ z ∧ z < 8) (h20 : s 20 = f) (h21 : s 21 = z) {T0 : Int → Bool} (hu : gu T0 ≤ 7) {fs0 : List gF} {x0 t0 : Int} {w0 : Int → Int} (hs : sW (A 0) f z T0 fs0 x0 t0 w0) {b : Bool} (hb : b = true → cO (A 0) z fs0) : Met l yX1_goesOn (ws_ yX1_goesOn cX1_goesOn 5 (some .boolean)) (zR 4 0 0) (va_Pc [.ref m0, .int (zI (zb b))] (zPre E (mM E ν m0 ad (st2 s x0 t0) (zg A 17 w0)))) (zQb E (goP E ν m0 ad s A f z T0 (if b = true then gL (A 0) z f T0 fs0 0 else gR (A 0) z (A 0 112) fs0))) 0 0 (zA E) := by
  have hn := hg.1
  have hto : ∀ e, 0 ≤ e → e < A 0 112 → 0 ≤ A 0 (7 * e + 1) ∧ A 0 (7 * e + 1) < 8 := fun e h1 h2 => by
    have h3 := hg.2 e h1 h2
    unfold eV at h3
    omega
  generalize hL0 : (if b = true then gL (A 0) z f T0 fs0 0 else gR (A 0) z (A 0 112) fs0) = L
  refine zmet (cc := cX1_goesOn) [_, _, _, _, _] (by decide) (Nat.le_of_ble_eq_true rfl) rfl rfl ?_
  intro X hl hX hinit; subst hl
  have hX : zOK X _ cX1_goesOn RX1 (some .boolean) 5 := hX
  generalize hQ : MQ _ _ _ _ _ _ _ = Q
  have loop : ∀ (n : Nat) (d : Bool) (fs : List gF) (x t : Int) (w : Int → Int), (if d = true then gWL (A 0) z f T0 fs 0 else gwR (A 0) z (A 0 112) fs) < n → (d = true → cO (A 0) z fs) → sW (A 0) f z T0 fs x t w → (if d = true then gL (A 0) z f T0 fs 0 else gR (A 0) z (A 0 112) fs) = L → ∀ y, zW X (zR 4 0 0) E (mM E ν m0 ad (st2 s x t) (zg A 17 w)) 0 0 Q 4 [some (.ref m0), some (.int (zI (zb b))), some (.int (zI (zb d))), some (.int (zI 0)), y] [] := by
    intro n
    induction n with
    | zero => intros; exfalso; omega
    | succ n ih =>
      intro d fs x t w hn2 hd hW hL y
      have mid : ∀ (fs : List gF) (k x t : Int) (w : Int → Int), cO (A 0) z fs → (0 ≤ k ∧ k ≤ A 0 112) → gWL (A 0) z f T0 fs k < n + 1 → sW (A 0) f z T0 fs x t w → gL (A 0) z f T0 fs k = L → ∀ d y, zW X (zR 4 0 0) E (mM E ν m0 ad (st2 s x t) (zg A 17 w)) 0 0 Q 81 [some (.ref m0), some (.int (zI (zb b))), some (.int (zI (zb d))), some (.int (zI k)), y] [] := by
        intro fs k x t w ho hk hn3 hW hL d y
        obtain ⟨hh1, hh2⟩ := hereV_W h20 hW
        obtain ⟨hW1, hW2, hW3, hW4⟩ := hW
        have hlen := FV_u hto hu hW4 ho
        have a0 : zg A 17 w 0 = A 0 := zg_n (by decide)
        have q18 := st2_18 s x t
        have q20 : st2 s x t 20 = f := by rw [st2_n _ _ _ (by decide) (by decide)]; exact h20
        have q21 : st2 s x t 21 = z := by rw [st2_n _ _ _ (by decide) (by decide)]; exact h21
        refine zW.mask [true, true, true, true, false] (lv' := [_, _, _, _, none]) rfl ?_
        refine z_aload_n hX rfl (by first | rfl | exact va_rf_r _) dX1_goesOn_81 ?_
        refine z_iload_n hX rfl dX1_goesOn_82 ?_
        refine z_callb (z_runV hX (m_forth _ _ hD (by rw [a0]; exact hg) (by omega) (by rw [a0]; exact hh2) (by omega) (by omega) (T := cT (A 0) z T0 fs) (by rw [st2_19]; exact hW3) (by rw [a0]; omega)) (cwV 1 hX.ts (lw_V q1611 q1613 qs45 q71 q1614) rfl rfl rfl (by decide +kernel) (zroom (by decide) (by decide))) dX1_goesOn_83 mM_0 (ci := 1) rfl rfl rfl rfl (by first | exact Nat.le_of_ble_eq_true rfl | simp [va_rf_c, Value.category]) (zhf (by omega) (by omega))) (fun r_83 μ_83 h_83 => ?_)
        simp only [hh1, q21, a0, q18, st2_a, st2_b, zg_zg, zg_s] at h_83
        rcases h_83 with ⟨rfl, e, t1, he1, he2, hno, hok, hgm, rfl⟩ | ⟨rfl, hno, rfl⟩
        · have hW' : sW (A 0) f z T0 ((e, cT (A 0) z T0 fs, cV (A 0) f fs) :: fs) (x + 1) t1 (zf w x e) := ⟨by simp only [List.length_cons]; omega, ⟨by rw [← hW1, zf_s], wk_far hW2 (by omega)⟩, hgm, ⟨rfl, rfl, ho, ⟨by omega, he2⟩, hok, hW4⟩⟩
          have r18 := st2_18 s (x + 1) t1
          have r21 : st2 s (x + 1) t1 21 = z := by rw [st2_n _ _ _ (by decide) (by decide)]; exact h21
          have r17 : zg A 17 (zf w x e) 17 (st2 s (x + 1) t1 18 - 1) = e := by rw [zg_s, r18, show x + 1 - 1 = x by omega, zf_s]
          have r0 : zg A 17 (zf w x e) 0 (7 * zg A 17 (zf w x e) 17 (st2 s (x + 1) t1 18 - 1) + 1) = A 0 (7 * e + 1) := by rw [r17, zg_n (by decide)]
          have rb := hto e (by omega) he2
          refine z_istore_n hX (lv' := [_, _, _, _, _]) (Nat.le_of_ble_eq_true rfl) (by first | exact zpre_0 | exact zpre_n rfl | exact zpre_1 rfl rfl | exact zpre_1 rfl (va_rf_c _)) rfl dX1_goesOn_86 ?_
          refine z_iconst hX dX1_goesOn_87 ?_
          refine z_istore_n hX (lv' := [_, _, _, _, _]) (Nat.le_of_ble_eq_true rfl) (by first | exact zpre_0 | exact zpre_n rfl | exact zpre_1 rfl rfl | exact zpre_1 rfl (va_rf_c _)) rfl dX1_goesOn_88 ?_
          refine z_iload_n hX rfl dX1_goesOn_89 ?_
          refine z_if_eq_b hX dX1_goesOn_90 (tgt := 4) rfl (fun h_90 => ?_) (fun h_90 => ?_)
          · exact absurd h_90 (by decide)
          · refine z_aload_n hX rfl (by first | rfl | exact va_rf_r _) dX1_goesOn_93 ?_
            refine z_aload_n hX rfl (by first | rfl | exact va_rf_r _) dX1_goesOn_94 ?_
            refine zm_get hX 17 (by decide) q1387 dX1_goesOn_95 rfl rfl ?_
            refine z_aload_n hX rfl (by first | rfl | exact va_rf_r _) dX1_goesOn_98 ?_
            refine zm_get hX 18 (by decide) q1388 dX1_goesOn_99 rfl rfl ?_
            refine z_iconst hX dX1_goesOn_102 ?_
            refine z_isub hX dX1_goesOn_103 ?_
            refine zm_iaload hX hD 17 (by decide) (by decide) 8 rfl dX1_goesOn_104 (by omega) ?_
            refine z_iconst hX dX1_goesOn_105 ?_
            refine z_calli (z_runV hX (m_of _ _ hD (by omega)) (cwV 2 hX.ts (lw_V q1529 q1531 qs34 q71 q1532) rfl rfl rfl (by decide +kernel) (zroom (by decide) (by decide))) dX1_goesOn_106 mM_0 (ci := 1) rfl rfl rfl rfl (by first | exact Nat.le_of_ble_eq_true rfl | simp [va_rf_c, Value.category]) (zhf (by omega) (by omega))) (fun r_106 μ_106 h_106 => ?_)
            obtain ⟨rfl, rfl⟩ := h_106
            refine z_aload_n hX rfl (by first | rfl | exact va_rf_r _) dX1_goesOn_109 ?_
            refine zm_get hX 21 (by decide) q1391 dX1_goesOn_110 rfl rfl ?_
            refine z_icmp_ne hX (by omega) (by omega) dX1_goesOn_113 (tgt := 4) rfl (fun h_113 => ?_) (fun h_113 => ?_)
            · have hnz : ¬ A 0 (7 * e + 1) = z := by omega
              have hTf : cT (A 0) z T0 fs (A 0 (7 * e + 1)) = false := by
                rcases (gok_iff.mp hok).2 with q | q
                · exact absurd q hnz
                · exact q
              have hgp := gu_push rb.1 rb.2 hTf
              refine ih true ((e, cT (A 0) z T0 fs, cV (A 0) f fs) :: fs) (x + 1) t1 (zf w x e) ?_ (fun _ => hnz) hW' ?_ _
              · have h5 := gwR_on (fs := fs) he1 he2 hno hok hnz (by omega)
                rw [if_pos rfl]
                simp only [gWL, cT, cV, if_neg hnz] at hn3 h5 ⊢
                omega
              · have h5 := gR_on (fs := fs) he1 he2 hno hok hnz (by omega)
                rw [if_pos rfl]
                simp only [gL, cT, cV, if_neg hnz] at hL h5 ⊢
                rw [← h5, hL]
            · have hnz : A 0 (7 * e + 1) = z := by omega
              refine z_iconst hX dX1_goesOn_116 ?_
              (try rw [← hQ])
              first | refine z_breturn hX true dX1_goesOn_117 (by omega) (by omega) ?_ | refine z_breturn hX false dX1_goesOn_117 (by omega) (by omega) ?_ | refine z_breturn hX _ dX1_goesOn_117 (by omega) (by omega) ?_
              refine Or.inr ⟨rfl, _, _, _, _, ?_, ?_, hW', rfl⟩
              · rw [← hL, gL, gR_close (fs := fs) he1 he2 hno hok hnz]
              · exact fun q => q hnz
        · refine z_istore_n hX (lv' := [_, _, _, _, _]) (Nat.le_of_ble_eq_true rfl) (by first | exact zpre_0 | exact zpre_n rfl | exact zpre_1 rfl rfl | exact zpre_1 rfl (va_rf_c _)) rfl dX1_goesOn_86 ?_
          refine z_iconst hX dX1_goesOn_87 ?_
          refine z_istore_n hX (lv' := [_, _, _, _, _]) (Nat.le_of_ble_eq_true rfl) (by first | exact zpre_0 | exact zpre_n rfl | exact zpre_1 rfl rfl | exact zpre_1 rfl (va_rf_c _)) rfl dX1_goesOn_88 ?_
          refine z_iload_n hX rfl dX1_goesOn_89 ?_
          refine z_if_eq_b hX dX1_goesOn_90 (tgt := 4) rfl (fun h_90 => ?_) (fun h_90 => ?_)
          · refine ih false fs x t w ?_ (fun q => by cases q) ⟨hW1, hW2, hW3, hW4⟩ ?_ _
            · have h5 := gwR_no (n := A 0 112) (z := z) (fs := fs) hno
              rw [if_neg (by decide)]
              simp only [gWL] at hn3
              omega
            · have h5 := gR_no (n := A 0 112) (z := z) (fs := fs) hno
              rw [if_neg (by decide), ← hL, gL, h5]
          · exact absurd h_90 (by decide)
      refine zW.mask [true, true, true, true, false] (lv' := [_, _, _, _, none]) rfl ?_
      have q18 := st2_18 s x t
      have hW1 := hW.1
      have hlen : fs.length ≤ 8 := by
        cases fs with
        | nil => simp
        | cons fr fs' =>
          obtain ⟨e, T, v⟩ := fr
          have h5 := FV_u hto hu hW.2.2.2.2.2.2.2.2 hW.2.2.2.2.2.1
          simp only [List.length_cons]
          omega
      refine z_iload_n hX rfl dX1_goesOn_4 ?_
      refine z_if_ne_b hX dX1_goesOn_5 (tgt := 81) rfl (fun h_5 => ?_) (fun h_5 => ?_)
      · subst h_5
        rw [if_pos rfl] at hn2 hL
        exact mid fs 0 x t w (hd rfl) (by omega) hn2 hW hL true none
      · subst h_5
        rw [if_neg (by decide)] at hn2 hL
        refine z_aload_n hX rfl (by first | rfl | exact va_rf_r _) dX1_goesOn_8 ?_
        refine zm_get hX 18 (by decide) q1388 dX1_goesOn_9 rfl rfl ?_
        refine z_if_ne hX (by omega) dX1_goesOn_12 (tgt := 17) rfl (fun h_12 => ?_) (fun h_12 => ?_)
        · cases fs with
          | nil => exact absurd (by rw [q18, hW1]; rfl) h_12
          | cons fr fs' =>
            obtain ⟨e, T, v⟩ := fr
            obtain ⟨h1, h2, h3, h4⟩ := hW
            obtain ⟨h5, h6, h7, h8, h9, h10⟩ := h4
            have hx1 : x - 1 = (fs'.length : Int) := by rw [h1]; simp
            have rb := hto e h8.1 h8.2
            refine z_aload_n hX rfl (by first | rfl | exact va_rf_r _) dX1_goesOn_17 ?_
            refine z_dup hX (by first | rfl | exact va_rf_c _) dX1_goesOn_18 ?_
            refine zm_get hX 18 (by decide) q1388 dX1_goesOn_19 rfl rfl ?_
            refine z_iconst hX dX1_goesOn_22 ?_
            refine z_isub hX dX1_goesOn_23 ?_
            refine zm_puti hX hD 18 (by decide) q1388 dX1_goesOn_24 rfl mset_18 ?_
            rw [q18, st2_a]
            have r18 := st2_18 s (x - 1) t
            have r19 := st2_19 s (x - 1) t
            have r21 : st2 s (x - 1) t 21 = z := by rw [st2_n _ _ _ (by decide) (by decide)]; exact h21
            have r17 : zg A 17 w 17 (st2 s (x - 1) t 18) = e := by rw [zg_s, r18, hx1]; exact h2.1
            have r0 : zg A 17 w 0 (7 * zg A 17 w 17 (st2 s (x - 1) t 18) + 1) = A 0 (7 * e + 1) := by rw [r17, zg_n (by decide)]
            simp only [List.length_cons] at hlen h1
            have hmid : ∀ t', gM t' (cT (A 0) z T0 fs') → ∀ y, zW X (zR 4 0 0) E (mM E ν m0 ad (st2 s (x - 1) t') (zg A 17 w)) 0 0 Q 81 [some (.ref m0), some (.int (zI (zb b))), some (.int (zI (zb false))), some (.int (zI (e + 1))), y] [] := fun t' ht' y => mid fs' (e + 1) (x - 1) t' w h7 (by omega) (by
              simp only [gwR, ← h5, ← h6, gWL] at hn2 ⊢
              exact hn2) ⟨hx1, h2.2, ht', h10⟩ (by
              simp only [gR, gL, ← h5, ← h6] at hL ⊢
              exact hL) false y
            refine z_aload_n hX rfl (by first | rfl | exact va_rf_r _) dX1_goesOn_27 ?_
            refine zm_get hX 17 (by decide) q1387 dX1_goesOn_28 rfl rfl ?_
            refine z_aload_n hX rfl (by first | rfl | exact va_rf_r _) dX1_goesOn_31 ?_
            refine zm_get hX 18 (by decide) q1388 dX1_goesOn_32 rfl rfl ?_
            refine zm_iaload hX hD 17 (by decide) (by decide) 8 rfl dX1_goesOn_35 (by omega) ?_
            refine z_istore hX (lv' := [_, _, _, _, _]) (Nat.le_of_ble_eq_true rfl) (by first | exact zpre_0 | exact zpre_n rfl | exact zpre_1 rfl rfl | exact zpre_1 rfl (va_rf_c _)) rfl dX1_goesOn_36 ?_
            refine z_iload hX rfl dX1_goesOn_38 ?_
            refine z_iconst hX dX1_goesOn_40 ?_
            refine z_iadd hX dX1_goesOn_41 ?_
            refine z_istore_n hX (lv' := [_, _, _, _, _]) (Nat.le_of_ble_eq_true rfl) (by first | exact zpre_0 | exact zpre_n rfl | exact zpre_1 rfl rfl | exact zpre_1 rfl (va_rf_c _)) rfl dX1_goesOn_42 ?_
            refine z_aload_n hX rfl (by first | rfl | exact va_rf_r _) dX1_goesOn_43 ?_
            refine z_dup hX (by first | rfl | exact va_rf_c _) dX1_goesOn_44 ?_
            refine zm_get hX 19 (by decide) q1389 dX1_goesOn_45 rfl rfl ?_
            refine z_aload_n hX rfl (by first | rfl | exact va_rf_r _) dX1_goesOn_48 ?_
            refine z_iload hX rfl dX1_goesOn_49 ?_
            refine z_iconst hX dX1_goesOn_51 ?_
            refine z_calli (z_runV hX (m_of _ _ hD (by omega)) (cwV 2 hX.ts (lw_V q1529 q1531 qs34 q71 q1532) rfl rfl rfl (by decide +kernel) (zroom (by decide) (by decide))) dX1_goesOn_52 mM_0 (ci := 1) rfl rfl rfl rfl (by first | exact Nat.le_of_ble_eq_true rfl | simp [va_rf_c, Value.category]) (zhf (by omega) (by omega))) (fun r_52 μ_52 h_52 => ?_)
            obtain ⟨rfl, rfl⟩ := h_52
            refine z_aload_n hX rfl (by first | rfl | exact va_rf_r _) dX1_goesOn_55 ?_
            refine zm_get hX 21 (by decide) q1391 dX1_goesOn_56 rfl rfl ?_
            refine z_icmp_ne hX (by omega) (by omega) dX1_goesOn_59 (tgt := 66) rfl (fun h_59 => ?_) (fun h_59 => ?_)
            · have hnz : ¬ A 0 (7 * e + 1) = z := by omega
              simp only [cT, if_neg hnz] at h3
              have hTf : T (A 0 (7 * e + 1)) = false := by
                rcases (gok_iff.mp h9).2 with q | q
                · exact absurd q hnz
                · exact q
              obtain ⟨t', ht1, ht2, -⟩ := gM_pop h3 rb.1 rb.2 hTf
              obtain ⟨zx, -, hzx⟩ := zI_of (zI ((2 ^ (A 0 (7 * e + 1)).toNat : Nat) : Int) ^^^ zI (-1))
              rw [hzx] at ht1
              refine z_iconst hX dX1_goesOn_66 ?_
              refine z_aload_n hX rfl (by first | rfl | exact va_rf_r _) dX1_goesOn_67 ?_
              refine z_iload hX rfl dX1_goesOn_68 ?_
              refine z_iconst hX dX1_goesOn_70 ?_
              refine z_calli (z_runV hX (m_of _ _ hD (by omega)) (cwV 2 hX.ts (lw_V q1529 q1531 qs34 q71 q1532) rfl rfl rfl (by decide +kernel) (zroom (by decide) (by decide))) dX1_goesOn_71 mM_0 (ci := 1) rfl rfl rfl rfl (by first | exact Nat.le_of_ble_eq_true rfl | simp [va_rf_c, Value.category]) (zhf (by omega) (by omega))) (fun r_71 μ_71 h_71 => ?_)
              obtain ⟨rfl, rfl⟩ := h_71
              refine z_ishl hX (z := ((2^(A 0 (7 * e + 1)).toNat:Nat):Int)) (by rw [r0]; exact zshlI (by omega) (by omega)) dX1_goesOn_74 ?_
              refine z_iconst hX dX1_goesOn_75 ?_
              refine z_ixor hX (z := zx) hzx dX1_goesOn_76 ?_
              refine z_iand hX (z := t') (by rw [r19]; exact ht1) dX1_goesOn_77 ?_
              refine zm_puti hX hD 19 (by decide) q1389 dX1_goesOn_78 rfl mset_19 ?_
              rw [st2_b, r17]
              exact hmid t' (by rw [← h5]; exact ht2) _
            · have hnz : A 0 (7 * e + 1) = z := by omega
              simp only [cT, if_pos hnz] at h3
              refine z_iconst hX dX1_goesOn_62 ?_
              refine z_goto hX (tgt := 77) dX1_goesOn_63 rfl ?_
              refine z_iand hX (z := t) (by rw [r19]; exact gM_keep t (gM_r h3)) dX1_goesOn_77 ?_
              refine zm_puti hX hD 19 (by decide) q1389 dX1_goesOn_78 rfl mset_19 ?_
              rw [st2_b, r17]
              exact hmid t (by rw [← h5]; exact h3) _
        · cases fs with
          | nil =>
            refine z_iconst hX dX1_goesOn_15 ?_
            (try rw [← hQ])
            first | refine z_breturn hX true dX1_goesOn_16 (by omega) (by omega) ?_ | refine z_breturn hX false dX1_goesOn_16 (by omega) (by omega) ?_ | refine z_breturn hX _ dX1_goesOn_16 (by omega) (by omega) ?_
            exact Or.inl ⟨rfl, by rw [← hL]; rfl, _, _, _, rfl⟩
          | cons fr fs' =>
            rw [q18, hW1] at h_12
            simp only [List.length_cons] at h_12
            exact absurd h_12 (by omega)
  refine z_iload_n hX rfl dX1_goesOn_0 ?_
  refine z_istore_n hX (lv' := [_, _, _, _, _]) (Nat.le_of_ble_eq_true rfl) (by first | exact zpre_0 | exact zpre_n rfl | exact zpre_1 rfl rfl | exact zpre_1 rfl (va_rf_c _)) rfl dX1_goesOn_1 ?_
  refine z_iconst hX dX1_goesOn_2 ?_
  refine z_istore_n hX (lv' := [_, _, _, _, _]) (Nat.le_of_ble_eq_true rfl) (by first | exact zpre_0 | exact zpre_n rfl | exact zpre_1 rfl rfl | exact zpre_1 rfl (va_rf_c _)) rfl dX1_goesOn_3 ?_
  have h := loop ((if b = true then gWL (A 0) z f T0 fs0 0 else gwR (A 0) z (A 0 112) fs0) + 1) b fs0 x0 t0 w0 (by omega) hb hs hL0 none
  exact h
