/-! MODEL 8: searches, cycles, exchange -/
set_option maxRecDepth 100000
abbrev ksS : List Nat := [18, 19, 20, 21, 23, 24, 25]
abbrev ksA : List Nat := [17, 22]
theorem gm_low {f : Int} : (fun v : Int => if f = f then decide (v ≤ f) else decide (v = f)) = lowT f := by funext v; simp
theorem m_searches (l : Launch) (E : zE) {ν : zM} {m0 : Nat} {ad : Nat → Nat} {s : Nat → Int} {A : Nat → Int → Int} (hD : mD m0 ad) (hg : gV (A 0)) {k : Int} (hk : 0 ≤ k ∧ k ≤ 2) : Met l yX1_searches (ws_ yX1_searches cX1_searches 4 none) (zR 5 0 0) (va_Pc [.ref m0, .int (zI k)] (zPre E (mM E ν m0 ad s A))) (zQv E (fun μ' => ∃ s' A', sag ksS s s' ∧ sag ksA A A' ∧ bS s' A' (gBest k (A 0)) ∧ mM E ν m0 ad s' A' = μ')) 0 0 (zA E) := by
  refine zmet (cc := cX1_searches) [_, _, _, _] (by decide) (Nat.le_of_ble_eq_true rfl) rfl rfl ?_
  intro X hl hX hinit; subst hl
  have hX : zOK X _ cX1_searches RX1 none 4 := hX
  generalize hQ : MQ _ _ _ _ _ _ _ = Q
  have hvG : vG k = 1 ∨ vG k = -1 := by unfold vG; split <;> omega
  -- the walks from one node
  have inner : ∀ (i : Int) (L : List (List Int)) (r : Bool) (s1 : Nat → Int) (A1 : Nat → Int → Int) (b : bT), 0 ≤ i → i < 8 → sag ksS s s1 → sag ksA A A1 → s1 20 = i → s1 21 = i → bS s1 A1 b → nxW (A 0) i i (lowT i) s1 A1 r L → (∀ s2 A2, sag ksS s s2 → sag ksA A A2 → bS s2 A2 (L.foldl (wst k (A 0)) b) → ∀ y, zW X (zR 5 0 0) E (mM E ν m0 ad s2 A2) 0 0 Q 90 [some (.ref m0), some (.int (zI k)), some (.int (zI i)), y] []) → zW X (zR 5 0 0) E (mM E ν m0 ad s1 A1) 0 0 Q 26 [some (.ref m0), some (.int (zI k)), some (.int (zI i)), some (.int (zI (zb r)))] [] := by
    intro i L
    induction L with
    | nil =>
      intro r s1 A1 b h0 h8 hs hA h20 h21 hb hn kk
      rcases hn with ⟨rfl, -⟩ | ⟨-, p, L', h, -⟩
      · refine z_iload_n hX rfl dX1_searches_26 ?_
        refine z_if_eq_b hX dX1_searches_27 (tgt := 90) rfl (fun h_27 => ?_) (fun h_27 => ?_)
        · exact kk s1 A1 hs hA hb _
        · exact absurd h_27 (by decide)
      · cases h
    | cons p L ih =>
      intro r s1 A1 b h0 h8 hs hA h20 h21 hb hn kk
      rcases hn with ⟨-, h⟩ | ⟨rfl, p', L', h, hat⟩
      · cases h
      · obtain ⟨rfl, rfl⟩ : p = p' ∧ L = L' := by cases h; exact ⟨rfl, rfl⟩
        have a0 : A1 0 = A 0 := hA 0 (by decide)
        have hg1 : gV (A1 0) := by rw [a0]; exact hg
        obtain ⟨hx, hx18, hl, h1, hr, hm⟩ := hat
        have hm' : ∀ e ∈ p, 0 ≤ e ∧ e < A1 0 112 := by rw [a0]; exact hm
        have hm16 : ∀ e ∈ p, 0 ≤ e ∧ e < 16 := fun e he => by have := hm e he; have := hg.1; omega
        have b1 := esum_w hg hl hm
        have b2 := esum_t hg hl h1 hm
        have b3 := eprod_r (w := 5) hg (by omega) hl hm
        have b4 := eprod_r (w := 6) hg (by omega) hl hm
        have next : ∀ (s2 : Nat → Int) (A2 : Nat → Int → Int), sag [23, 24, 25] s1 s2 → sag [22] A1 A2 → bS s2 A2 (wst k (A 0) b p) → zW X (zR 5 0 0) E (mM E ν m0 ad s2 A2) 0 0 Q 81 [some (.ref m0), some (.int (zI k)), some (.int (zI i)), some (.int (zI (zb true)))] [] := by
          intro s2 A2 hs2 hA2 hb2
          have a2 : A2 0 = A 0 := (hA2 0 (by decide)).trans a0
          have hat2 : atW (A2 0) i i (lowT i) (s2 18) (s2 19) (A2 17) p L := by
            rw [a2, hs2 18 (by decide), hs2 19 (by decide), hA2 17 (by decide)]
            exact ⟨hx, hx18, hl, h1, hr, hm⟩
          refine z_aload_n hX rfl (by first | rfl | exact va_rf_r _) dX1_searches_81 ?_
          refine z_iconst hX dX1_searches_82 ?_
          refine z_callb (z_runV hX (m_go2 _ _ hD (by rw [a2]; exact hg) ⟨h0, h8⟩ ⟨h0, h8⟩ (by rw [hs2 20 (by decide)]; exact h20) (by rw [hs2 21 (by decide)]; exact h21) (lowT_u ⟨h0, h8⟩) hat2) (cwV 1 hX.ts (lw_V q1607 q1609 qs44 q71 q1610) rfl rfl rfl (by decide +kernel) (zroom (by decide) (by decide))) dX1_searches_83 mM_0 (ci := 1) rfl rfl rfl rfl (by first | exact Nat.le_of_ble_eq_true rfl | simp [va_rf_c, Value.category]) (zhf (by omega) (by omega))) (fun r_83 μ_83 h_83 => ?_)
          obtain ⟨s3, A3, h3, h4, h5, rfl⟩ := goQ_nx h_83
          refine z_istore_n hX (lv' := [_, _, _, _]) (Nat.le_of_ble_eq_true rfl) (by first | exact zpre_0 | exact zpre_n rfl | exact zpre_1 rfl rfl | exact zpre_1 rfl (va_rf_c _)) rfl dX1_searches_86 ?_
          refine z_goto hX (tgt := 26) dX1_searches_87 rfl ?_
          rw [a2] at h5
          refine ih _ s3 A3 (wst k (A 0) b p) h0 h8 ?_ ?_ ?_ ?_ ?_ h5 kk
          · exact (hs.tr hs2 (ks := ksS) (by intro k hk; simp only [List.mem_cons, List.not_mem_nil, or_false, not_or] at hk ⊢; omega)).tr h3 (by intro k hk; simp only [List.mem_cons, List.not_mem_nil, or_false, not_or] at hk ⊢; omega)
          · exact (hA.tr hA2 (ks := ksA) (by intro k hk; simp only [List.mem_cons, List.not_mem_nil, or_false, not_or] at hk ⊢; omega)).tr h4 (by intro k hk; simp only [List.mem_cons, List.not_mem_nil, or_false, not_or] at hk ⊢; omega)
          · rw [h3 20 (by decide), hs2 20 (by decide)]; exact h20
          · rw [h3 21 (by decide), hs2 21 (by decide)]; exact h21
          · exact bS_ag hb2 (h3 _ (by decide)) (h3 _ (by decide)) (h3 _ (by decide)) (h4 _ (by decide))
        refine z_iload_n hX rfl dX1_searches_26 ?_
        refine z_if_eq_b hX dX1_searches_27 (tgt := 90) rfl (fun h_27 => ?_) (fun h_27 => ?_)
        · exact absurd h_27 (by decide)
        · refine z_iload_n hX rfl dX1_searches_30 ?_
          refine z_iconst hX dX1_searches_31 ?_
          refine z_icmp_ne hX (by omega) (by omega) dX1_searches_32 (tgt := 54) rfl (fun h_32 => ?_) (fun h_32 => ?_)
          · refine z_aload_n hX rfl (by first | rfl | exact va_rf_r _) dX1_searches_54 ?_
            refine z_aload_n hX rfl (by first | rfl | exact va_rf_r _) dX1_searches_55 ?_
            refine z_iconst hX dX1_searches_56 ?_
            refine z_calll (z_runV hX (m_sum _ _ hD hg1 hx18 hl hr hm' (by omega)) (cwV 1 hX.ts (lw_V q1637 q1639 qs50 q71 q1640) rfl rfl rfl (by decide +kernel) (zroom (by decide) (by decide))) dX1_searches_57 mM_0 (ci := 1) rfl rfl rfl rfl (by first | exact Nat.le_of_ble_eq_true rfl | simp [va_rf_c, Value.category]) (zhf (by omega) (by omega))) (fun r_57 μ_57 h_57 => ?_)
            obtain ⟨rfl, rfl⟩ := h_57; rw [a0]
            refine z_iload_n hX rfl dX1_searches_60 ?_
            refine z_if_ne hX (by omega) dX1_searches_61 (tgt := 72) rfl (fun h_61 => ?_) (fun h_61 => ?_)
            · refine z_aload_n hX rfl (by first | rfl | exact va_rf_r _) dX1_searches_72 ?_
              refine z_iconst hX dX1_searches_73 ?_
              refine z_calll (z_runV hX (m_sum _ _ hD hg1 hx18 hl hr hm' (by omega)) (cwV 1 hX.ts (lw_V q1637 q1639 qs50 q71 q1640) rfl rfl rfl (by decide +kernel) (zroom (by decide) (by decide))) dX1_searches_74 mM_0 (ci := 1) rfl rfl rfl rfl (by first | exact Nat.le_of_ble_eq_true rfl | simp [va_rf_c, Value.category]) (zhf (by omega) (by omega))) (fun r_74 μ_74 h_74 => ?_)
              obtain ⟨rfl, rfl⟩ := h_74; rw [a0]
              refine z_iconst hX dX1_searches_77 ?_
              refine z_callv (z_runV hX (m_weighs _ _ hD hx18 hl hr hm16 hb (by omega) (by omega) (by omega)) (cwV 3 hX.ts (lw_V q1623 q1625 qs48 q71 q1626) rfl rfl rfl (by decide +kernel) (zroom (by decide) (by decide))) dX1_searches_78 mM_0 (ci := 1) rfl rfl rfl rfl (by first | exact Nat.le_of_ble_eq_true rfl | simp [va_rf_c, Value.category]) (zhf (by omega) (by omega))) (fun μ_78 h_78 => ?_)
              obtain ⟨s2, A2, h3, h4, h5, rfl⟩ := h_78
              refine next s2 A2 h3 h4 ?_
              rw [wst, vG, vUp, vDn, if_neg h_32, if_neg h_32, if_neg h_32, if_neg h_61]
              exact h5
            · refine z_aload_n hX rfl (by first | rfl | exact va_rf_r _) dX1_searches_64 ?_
              refine zm_get hX 18 (by decide) q1388 dX1_searches_65 rfl rfl ?_
              refine z_i2l hX (by omega) dX1_searches_68 ?_
              refine z_goto hX (tgt := 77) dX1_searches_69 rfl ?_
              refine z_iconst hX dX1_searches_77 ?_
              refine z_callv (z_runV hX (m_weighs _ _ hD hx18 hl hr hm16 hb (by omega) (by omega) (by omega)) (cwV 3 hX.ts (lw_V q1623 q1625 qs48 q71 q1626) rfl rfl rfl (by decide +kernel) (zroom (by decide) (by decide))) dX1_searches_78 mM_0 (ci := 1) rfl rfl rfl rfl (by first | exact Nat.le_of_ble_eq_true rfl | simp [va_rf_c, Value.category]) (zhf (by omega) (by omega))) (fun μ_78 h_78 => ?_)
              obtain ⟨s2, A2, h3, h4, h5, rfl⟩ := h_78
              refine next s2 A2 h3 h4 ?_
              rw [wst, vG, vUp, vDn, if_neg h_32, if_neg h_32, if_neg h_32, if_pos h_61, ← hx18]
              exact h5
          · refine z_aload_n hX rfl (by first | rfl | exact va_rf_r _) dX1_searches_35 ?_
            refine z_aload_n hX rfl (by first | rfl | exact va_rf_r _) dX1_searches_36 ?_
            refine z_iconst hX dX1_searches_37 ?_
            refine z_calll (z_runV hX (m_product _ _ hD hg1 hx18 hl hr hm' (by omega)) (cwV 1 hX.ts (lw_V q1619 q1621 qs47 q71 q1622) rfl rfl rfl (by decide +kernel) (zroom (by decide) (by decide))) dX1_searches_38 mM_0 (ci := 1) rfl rfl rfl rfl (by first | exact Nat.le_of_ble_eq_true rfl | simp [va_rf_c, Value.category]) (zhf (by omega) (by omega))) (fun r_38 μ_38 h_38 => ?_)
            obtain ⟨rfl, rfl⟩ := h_38; rw [a0]
            refine z_aload_n hX rfl (by first | rfl | exact va_rf_r _) dX1_searches_41 ?_
            refine z_bipush hX (by decide) dX1_searches_42 ?_
            refine z_calll (z_runV hX (m_product _ _ hD hg1 hx18 hl hr hm' (by omega)) (cwV 1 hX.ts (lw_V q1619 q1621 qs47 q71 q1622) rfl rfl rfl (by decide +kernel) (zroom (by decide) (by decide))) dX1_searches_44 mM_0 (ci := 1) rfl rfl rfl rfl (by first | exact Nat.le_of_ble_eq_true rfl | simp [va_rf_c, Value.category]) (zhf (by omega) (by omega))) (fun r_44 μ_44 h_44 => ?_)
            obtain ⟨rfl, rfl⟩ := h_44; rw [a0]
            refine z_iconst hX dX1_searches_47 ?_
            refine z_callv (z_runV hX (m_weighs _ _ hD hx18 hl hr hm16 hb (by omega) (by omega) (by omega)) (cwV 3 hX.ts (lw_V q1623 q1625 qs48 q71 q1626) rfl rfl rfl (by decide +kernel) (zroom (by decide) (by decide))) dX1_searches_48 mM_0 (ci := 1) rfl rfl rfl rfl (by first | exact Nat.le_of_ble_eq_true rfl | simp [va_rf_c, Value.category]) (zhf (by omega) (by omega))) (fun μ_48 h_48 => ?_)
            obtain ⟨s2, A2, h3, h4, h5, rfl⟩ := h_48
            refine z_goto hX (tgt := 81) dX1_searches_51 rfl ?_
            refine next s2 A2 h3 h4 ?_
            rw [wst, vG, vUp, vDn, if_pos h_32, if_pos h_32, if_pos h_32]
            exact h5
  have outer : ∀ (n : Nat) (i : Int) (s1 : Nat → Int) (A1 : Nat → Int → Int) (b : bT), 0 ≤ i → i ≤ 8 → 8 < i + n → sag ksS s s1 → sag ksA A A1 → bS s1 A1 b → ((er i 8).flatMap (fun s => gAll (A 0) s s (lowT s))).foldl (wst k (A 0)) b = gBest k (A 0) → ∀ y, zW X (zR 5 0 0) E (mM E ν m0 ad s1 A1) 0 0 Q 8 [some (.ref m0), some (.int (zI k)), some (.int (zI i)), y] [] := by
    intro n
    induction n with
    | zero => intros; exfalso; omega
    | succ n ih =>
      intro i s1 A1 b h0 h1 hn hs hA hb he y
      refine zW.mask [true, true, true, false] (lv' := [_, _, _, none]) rfl ?_
      refine z_iload_n hX rfl dX1_searches_8 ?_
      refine z_bipush hX (by decide) dX1_searches_9 ?_
      refine z_icmp_ge hX (by omega) (by omega) dX1_searches_11 (tgt := 96) rfl (fun h_11 => ?_) (fun h_11 => ?_)
      · obtain rfl : i = 8 := by omega
        rw [er_nil (Int.le_refl _)] at he
        (try rw [← hQ])
        refine z_return hX dX1_searches_96 (by omega) (by omega) ?_
        exact ⟨s1, A1, hs, hA, by rw [← he]; exact hb, rfl⟩
      · rw [er_cons (show i < 8 by omega), List.flatMap_cons, List.foldl_append] at he
        have a0 : A1 0 = A 0 := hA 0 (by decide)
        refine z_aload_n hX rfl (by first | rfl | exact va_rf_r _) dX1_searches_14 ?_
        refine z_iload_n hX rfl dX1_searches_15 ?_
        refine z_iload_n hX rfl dX1_searches_16 ?_
        refine z_callv (z_runV hX (m_starts _ _ hD ⟨h0, by omega⟩ ⟨h0, by omega⟩) (cwV 2 hX.ts (lw_V q1603 q1605 qs43 q71 q1606) rfl rfl rfl (by decide +kernel) (zroom (by decide) (by decide))) dX1_searches_17 mM_0 (ci := 1) rfl rfl rfl rfl (by first | exact Nat.le_of_ble_eq_true rfl | simp [va_rf_c, Value.category]) (zhf (by omega) (by omega))) (fun μ_17 h_17 => ?_)
        obtain ⟨t, rfl, ht⟩ := h_17; rw [gm_low] at ht; generalize hs4 : zg (zg (zg (zg s1 18 0) 20 i) 21 i) 19 t = s4
        have k1 : sag [18, 19, 20, 21] s1 s4 := by rw [← hs4]; exact (((sag.up (by simp)).up2 (by simp)).up2 (by simp)).up2 (by simp)
        have k18 : s4 18 = 0 := by rw [← hs4, zg_n (by decide), zg_n (by decide), zg_n (by decide), zg_s]
        have k20 : s4 20 = i := by rw [← hs4, zg_n (by decide), zg_n (by decide), zg_s]
        have k21 : s4 21 = i := by rw [← hs4, zg_n (by decide), zg_s]
        have k19 : gM (s4 19) (lowT i) := by rw [← hs4, zg_s]; exact ht
        refine z_aload_n hX rfl (by first | rfl | exact va_rf_r _) dX1_searches_20 ?_
        refine z_iconst hX dX1_searches_21 ?_
        refine z_callb (z_runV hX (m_go1 _ _ hD (by rw [a0]; exact hg) ⟨h0, by omega⟩ ⟨h0, by omega⟩ k20 k21 (lowT_u ⟨h0, by omega⟩) k18 k19) (cwV 1 hX.ts (lw_V q1607 q1609 qs44 q71 q1610) rfl rfl rfl (by decide +kernel) (zroom (by decide) (by decide))) dX1_searches_22 mM_0 (ci := 1) rfl rfl rfl rfl (by first | exact Nat.le_of_ble_eq_true rfl | simp [va_rf_c, Value.category]) (zhf (by omega) (by omega))) (fun r_22 μ_22 h_22 => ?_)
        obtain ⟨s3, A3, h3, h4, h5, rfl⟩ := goQ_nx h_22
        refine z_istore_n hX (lv' := [_, _, _, _]) (Nat.le_of_ble_eq_true rfl) (by first | exact zpre_0 | exact zpre_n rfl | exact zpre_1 rfl rfl | exact zpre_1 rfl (va_rf_c _)) rfl dX1_searches_25 ?_
        rw [a0] at h5
        refine inner i _ _ s3 A3 b h0 (by omega) ?_ ?_ ?_ ?_ ?_ h5 (fun s2 A2 g1 g2 g3 y => ?_)
        · exact (hs.tr k1 (ks := ksS) (by intro k hk; simp only [List.mem_cons, List.not_mem_nil, or_false, not_or] at hk ⊢; omega)).tr h3 (by intro k hk; simp only [List.mem_cons, List.not_mem_nil, or_false, not_or] at hk ⊢; omega)
        · exact hA.tr h4 (by intro k hk; simp only [List.mem_cons, List.not_mem_nil, or_false, not_or] at hk ⊢; omega)
        · rw [h3 20 (by decide)]; exact k20
        · rw [h3 21 (by decide)]; exact k21
        · exact bS_ag hb ((h3 _ (by decide)).trans (k1 _ (by decide))) ((h3 _ (by decide)).trans (k1 _ (by decide))) ((h3 _ (by decide)).trans (k1 _ (by decide))) (h4 _ (by decide))
        · refine z_iinc hX (lv' := [_, _, _, _]) rfl (Nat.le_of_ble_eq_true rfl) (by first | exact zpre_0 | exact zpre_n rfl | exact zpre_1 rfl rfl | exact zpre_1 rfl (va_rf_c _)) rfl dX1_searches_90 ?_
          refine z_goto hX (tgt := 8) dX1_searches_93 rfl ?_
          exact ih (i + 1) s2 A2 _ (by omega) (by omega) (by omega) g1 g2 g3 he _
  refine z_aload_n hX rfl (by first | rfl | exact va_rf_r _) dX1_searches_0 ?_
  refine z_ldc hX (z := -1000001) q1369 (by decide) dX1_searches_1 ?_
  refine zm_puti hX hD 23 (by decide) q1393 dX1_searches_3 rfl mset_23 ?_
  refine z_iconst hX dX1_searches_6 ?_
  refine z_istore_n hX (lv' := [_, _, _, _]) (Nat.le_of_ble_eq_true rfl) (by first | exact zpre_0 | exact zpre_n rfl | exact zpre_1 rfl rfl | exact zpre_1 rfl (va_rf_c _)) rfl dX1_searches_7 ?_
  refine outer 9 0 _ A none (by omega) (by omega) (by omega) (sag.up (by simp)) sag.rf (by show _ = _; rw [zg_s]) rfl none
/-- how many cycles count -/
def cyOK (k : Int) (a : Int → Int) (p : List Int) : Bool := decide (k = 0) || (decide (k = 1) && decide (esum a 2 p < 0)) || (decide (k = 2) && decide (eprod a 6 p < eprod a 5 p))
def cyN (k : Int) (a : Int → Int) (L : List (List Int)) : Int := (L.map (fun p => zb (cyOK k a p))).sum
abbrev kcS : List Nat := [18, 19, 20, 21]
theorem cyN_r (k : Int) (a : Int → Int) : ∀ L, 0 ≤ cyN k a L ∧ cyN k a L ≤ L.length
  | [] => by simp [cyN]
  | p :: L => by
    have h := cyN_r k a L
    have h2 := zb_01 (cyOK k a p)
    simp only [cyN, List.map_cons, List.sum_cons, List.length_cons] at h ⊢
    omega
theorem m_cycles (l : Launch) (E : zE) {ν : zM} {m0 : Nat} {ad : Nat → Nat} {s : Nat → Int} {A : Nat → Int → Int} (hD : mD m0 ad) (hg : gV (A 0)) {k : Int} (hk : iR k) : Met l yX1_cycles (ws_ yX1_cycles cX1_cycles 5 (some .int)) (zR 5 0 0) (va_Pc [.ref m0, .int (zI k)] (zPre E (mM E ν m0 ad s A))) (zQi E (fun r μ' => ∃ s' A', sag kcS s s' ∧ sag [17] A A' ∧ (if 0 ≤ k ∧ k ≤ 2 then cyN k (A 0) (gC (A 0)) else gBAD) = r ∧ mM E ν m0 ad s' A' = μ')) 0 0 (zA E) := by
  refine zmet (cc := cX1_cycles) [_, _, _, _, _] (by decide) (Nat.le_of_ble_eq_true rfl) rfl rfl ?_
  intro X hl hX hinit; subst hl
  have hX : zOK X _ cX1_cycles RX1 (some .int) 5 := hX
  generalize hQ : MQ _ _ _ _ _ _ _ = Q
  have inner : ∀ (i : Int) (L : List (List Int)) (r : Bool) (s1 : Nat → Int) (A1 : Nat → Int → Int) (c : Int), 0 ≤ i → i < 8 → sag kcS s s1 → sag [17] A A1 → s1 20 = i → s1 21 = i → nxW (A 0) i i (lowT i) s1 A1 r L → (∀ s2 A2, sag kcS s s2 → sag [17] A A2 → ∀ y, zW X (zR 5 0 0) E (mM E ν m0 ad s2 A2) 0 0 Q 100 [some (.ref m0), some (.int (zI k)), some (.int (zI (c + cyN k (A 0) L))), some (.int (zI i)), y] []) → zW X (zR 5 0 0) E (mM E ν m0 ad s1 A1) 0 0 Q 38 [some (.ref m0), some (.int (zI k)), some (.int (zI c)), some (.int (zI i)), some (.int (zI (zb r)))] [] := by
    intro i L
    induction L with
    | nil =>
      intro r s1 A1 c h0 h8 hs hA h20 h21 hn kk
      rcases hn with ⟨rfl, -⟩ | ⟨-, p, L', h, -⟩
      · refine z_iload hX rfl dX1_cycles_38 ?_
        refine z_if_eq_b hX dX1_cycles_40 (tgt := 100) rfl (fun h_40 => ?_) (fun h_40 => ?_)
        · have h := kk s1 A1 hs hA (some (.int (zI (zb false))))
          simp only [cyN, List.map_nil, List.sum_nil, Int.add_zero] at h
          exact h
        · exact absurd h_40 (by decide)
      · cases h
    | cons p L ih =>
      intro r s1 A1 c h0 h8 hs hA h20 h21 hn kk
      rcases hn with ⟨-, h⟩ | ⟨rfl, p', L', h, hat⟩
      · cases h
      · obtain ⟨rfl, rfl⟩ : p = p' ∧ L = L' := by cases h; exact ⟨rfl, rfl⟩
        have a0 : A1 0 = A 0 := hA 0 (by decide)
        have hg1 : gV (A1 0) := by rw [a0]; exact hg
        obtain ⟨hx, hx18, hl, h1, hr, hm⟩ := hat
        have hm' : ∀ e ∈ p, 0 ≤ e ∧ e < A1 0 112 := by rw [a0]; exact hm
        have b1 := esum_w hg hl hm
        have b3 := eprod_r (w := 5) hg (by omega) hl hm
        have b4 := eprod_r (w := 6) hg (by omega) hl hm
        have next : ∀ (b : Bool), cyOK k (A 0) p = b → zW X (zR 5 0 0) E (mM E ν m0 ad s1 A1) 0 0 Q 88 [some (.ref m0), some (.int (zI k)), some (.int (zI c)), some (.int (zI i)), some (.int (zI (zb true)))] [.int (zI (zb b)), .int (zI c)] := by
          intro b hb
          have hat2 : atW (A1 0) i i (lowT i) (s1 18) (s1 19) (A1 17) p L := by
            rw [a0]
            exact ⟨hx, hx18, hl, h1, hr, hm⟩
          refine z_iadd hX dX1_cycles_88 ?_
          refine z_istore_n hX (lv' := [_, _, _, _, _]) (Nat.le_of_ble_eq_true rfl) (by first | exact zpre_0 | exact zpre_n rfl | exact zpre_1 rfl rfl | exact zpre_1 rfl (va_rf_c _)) rfl dX1_cycles_89 ?_
          refine z_aload_n hX rfl (by first | rfl | exact va_rf_r _) dX1_cycles_90 ?_
          refine z_iconst hX dX1_cycles_91 ?_
          refine z_callb (z_runV hX (m_go2 _ _ hD hg1 ⟨h0, h8⟩ ⟨h0, h8⟩ h20 h21 (lowT_u ⟨h0, h8⟩) hat2) (cwV 1 hX.ts (lw_V q1607 q1609 qs44 q71 q1610) rfl rfl rfl (by decide +kernel) (zroom (by decide) (by decide))) dX1_cycles_92 mM_0 (ci := 1) rfl rfl rfl rfl (by first | exact Nat.le_of_ble_eq_true rfl | simp [va_rf_c, Value.category]) (zhf (by omega) (by omega))) (fun r_92 μ_92 h_92 => ?_)
          obtain ⟨s3, A3, h3, h4, h5, rfl⟩ := goQ_nx h_92
          refine z_istore hX (lv' := [_, _, _, _, _]) (Nat.le_of_ble_eq_true rfl) (by first | exact zpre_0 | exact zpre_n rfl | exact zpre_1 rfl rfl | exact zpre_1 rfl (va_rf_c _)) rfl dX1_cycles_95 ?_
          refine z_goto hX (tgt := 38) dX1_cycles_97 rfl ?_
          rw [a0] at h5
          refine ih _ s3 A3 (c + zb b) h0 h8 (hs.tr h3 (by intro k hk; simp only [List.mem_cons, List.not_mem_nil, or_false, not_or] at hk ⊢; omega)) (hA.tr h4 (by intro k hk; simp only [List.mem_cons, List.not_mem_nil, or_false, not_or] at hk ⊢; omega)) (by rw [h3 20 (by decide)]; exact h20) (by rw [h3 21 (by decide)]; exact h21) h5 (fun s2 A2 g1 g2 y => ?_)
          have h := kk s2 A2 g1 g2 y
          simp only [cyN, List.map_cons, List.sum_cons, hb] at h ⊢
          rw [Int.add_assoc]
          exact h
        have yes : cyOK k (A 0) p = true → zW X (zR 5 0 0) E (mM E ν m0 ad s1 A1) 0 0 Q 83 [some (.ref m0), some (.int (zI k)), some (.int (zI c)), some (.int (zI i)), some (.int (zI (zb true)))] [.int (zI c)] := by
          intro hb
          refine z_iconst hX dX1_cycles_83 ?_
          refine z_goto hX (tgt := 88) dX1_cycles_84 rfl ?_
          exact next true hb
        have no : cyOK k (A 0) p = false → zW X (zR 5 0 0) E (mM E ν m0 ad s1 A1) 0 0 Q 87 [some (.ref m0), some (.int (zI k)), some (.int (zI c)), some (.int (zI i)), some (.int (zI (zb true)))] [.int (zI c)] := by
          intro hb
          refine z_iconst hX dX1_cycles_87 ?_
          exact next false hb
        have at63 : ¬ k = 0 → ¬ (k = 1 ∧ esum (A 0) 2 p < 0) → zW X (zR 5 0 0) E (mM E ν m0 ad s1 A1) 0 0 Q 63 [some (.ref m0), some (.int (zI k)), some (.int (zI c)), some (.int (zI i)), some (.int (zI (zb true)))] [.int (zI c)] := by
          intro hk0 hk1
          refine z_iload_n hX rfl dX1_cycles_63 ?_
          refine z_iconst hX dX1_cycles_64 ?_
          refine z_icmp_ne hX (by omega) (by omega) dX1_cycles_65 (tgt := 87) rfl (fun h_65 => ?_) (fun h_65 => ?_)
          · refine no ?_
            simp only [cyOK, Bool.or_eq_false_iff, Bool.and_eq_false_iff, decide_eq_false_iff_not]
            omega
          · refine z_aload_n hX rfl (by first | rfl | exact va_rf_r _) dX1_cycles_68 ?_
            refine z_iconst hX dX1_cycles_69 ?_
            refine z_calll (z_runV hX (m_product _ _ hD hg1 hx18 hl hr hm' (by omega)) (cwV 1 hX.ts (lw_V q1619 q1621 qs47 q71 q1622) rfl rfl rfl (by decide +kernel) (zroom (by decide) (by decide))) dX1_cycles_70 mM_0 (ci := 1) rfl rfl rfl rfl (by first | exact Nat.le_of_ble_eq_true rfl | simp [va_rf_c, Value.category]) (zhf (by omega) (by omega))) (fun r_70 μ_70 h_70 => ?_)
            obtain ⟨rfl, rfl⟩ := h_70; rw [a0]
            refine z_aload_n hX rfl (by first | rfl | exact va_rf_r _) dX1_cycles_73 ?_
            refine z_bipush hX (by decide) dX1_cycles_74 ?_
            refine z_calll (z_runV hX (m_product _ _ hD hg1 hx18 hl hr hm' (by omega)) (cwV 1 hX.ts (lw_V q1619 q1621 qs47 q71 q1622) rfl rfl rfl (by decide +kernel) (zroom (by decide) (by decide))) dX1_cycles_76 mM_0 (ci := 1) rfl rfl rfl rfl (by first | exact Nat.le_of_ble_eq_true rfl | simp [va_rf_c, Value.category]) (zhf (by omega) (by omega))) (fun r_76 μ_76 h_76 => ?_)
            obtain ⟨rfl, rfl⟩ := h_76; rw [a0]
            refine z_lcmp_le hX (by omega) (by omega) dX1_cycles_79 dX1_cycles_80 (tgt := 87) rfl (fun h_79 => ?_) (fun h_79 => ?_)
            · refine no ?_
              simp only [cyOK, Bool.or_eq_false_iff, Bool.and_eq_false_iff, decide_eq_false_iff_not]
              omega
            · refine yes ?_
              simp only [cyOK, Bool.or_eq_true, Bool.and_eq_true, decide_eq_true_eq]
              omega
        refine z_iload hX rfl dX1_cycles_38 ?_
        refine z_if_eq_b hX dX1_cycles_40 (tgt := 100) rfl (fun h_40 => ?_) (fun h_40 => ?_)
        · exact absurd h_40 (by decide)
        · refine z_iload_n hX rfl dX1_cycles_43 ?_
          refine z_iload_n hX rfl dX1_cycles_44 ?_
          refine z_if_eq hX (by omega) dX1_cycles_45 (tgt := 83) rfl (fun h_45 => ?_) (fun h_45 => ?_)
          · refine yes ?_
            simp [cyOK, h_45]
          · refine z_iload_n hX rfl dX1_cycles_48 ?_
            refine z_iconst hX dX1_cycles_49 ?_
            refine z_icmp_ne hX (by omega) (by omega) dX1_cycles_50 (tgt := 63) rfl (fun h_50 => ?_) (fun h_50 => ?_)
            · exact at63 h_45 (fun q => h_50 q.1)
            · refine z_aload_n hX rfl (by first | rfl | exact va_rf_r _) dX1_cycles_53 ?_
              refine z_iconst hX dX1_cycles_54 ?_
              refine z_calll (z_runV hX (m_sum _ _ hD hg1 hx18 hl hr hm' (by omega)) (cwV 1 hX.ts (lw_V q1637 q1639 qs50 q71 q1640) rfl rfl rfl (by decide +kernel) (zroom (by decide) (by decide))) dX1_cycles_55 mM_0 (ci := 1) rfl rfl rfl rfl (by first | exact Nat.le_of_ble_eq_true rfl | simp [va_rf_c, Value.category]) (zhf (by omega) (by omega))) (fun r_55 μ_55 h_55 => ?_)
              obtain ⟨rfl, rfl⟩ := h_55; rw [a0]
              refine z_lconst hX (z := 0) (by decide) dX1_cycles_58 ?_
              refine z_lcmp_lt hX (by omega) (by omega) dX1_cycles_59 dX1_cycles_60 (tgt := 83) rfl (fun h_59 => ?_) (fun h_59 => ?_)
              · refine yes ?_
                simp [cyOK, h_50, h_59]
              · exact at63 h_45 (fun q => by omega)
  refine z_iload_n hX rfl dX1_cycles_0 ?_
  refine z_i2l hX (by omega) dX1_cycles_1 ?_
  refine z_lconst hX (z := 0) (by decide) dX1_cycles_2 ?_
  refine z_ldc2_w hX (z := 2) q1660 (by decide) dX1_cycles_3 ?_
  refine z_callb (z_runS hX (m_in _ _ _ (by omega) (by omega) (by omega)) (va_cwS 3 hX.ts (lw_S q1501 q1502 q71 q1503) rfl rfl rfl (by decide +kernel) (zroom (by decide) (by decide))) dX1_cycles_6 rfl rfl rfl (by first | exact Nat.le_of_ble_eq_true rfl | simp [va_rf_c, Value.category]) (zhf (by omega) (by omega))) (fun r_6 μ_6 h_6 => ?_)
  obtain ⟨rfl, rfl⟩ := h_6
  refine z_if_ne_b hX dX1_cycles_9 (tgt := 15) rfl (fun h_9 => ?_) (fun h_9 => ?_)
  · have hok : 0 ≤ k ∧ k ≤ 2 := by simpa using h_9
    have outer : ∀ (n : Nat) (i : Int) (s1 : Nat → Int) (A1 : Nat → Int → Int) (c : Int), 0 ≤ i → i ≤ 8 → 8 < i + n → sag kcS s s1 → sag [17] A A1 → c + cyN k (A 0) ((er i 8).flatMap (fun s => gAll (A 0) s s (lowT s))) = cyN k (A 0) (gC (A 0)) → ∀ y, zW X (zR 5 0 0) E (mM E ν m0 ad s1 A1) 0 0 Q 19 [some (.ref m0), some (.int (zI k)), some (.int (zI c)), some (.int (zI i)), y] [] := by
      intro n
      induction n with
      | zero => intros; exfalso; omega
      | succ n ih =>
        intro i s1 A1 c h0 h1 hn hs hA he y
        refine zW.mask [true, true, true, true, false] (lv' := [_, _, _, _, none]) rfl ?_
        refine z_iload_n hX rfl dX1_cycles_19 ?_
        refine z_bipush hX (by decide) dX1_cycles_20 ?_
        refine z_icmp_ge hX (by omega) (by omega) dX1_cycles_22 (tgt := 106) rfl (fun h_22 => ?_) (fun h_22 => ?_)
        · obtain rfl : i = 8 := by omega
          rw [er_nil (Int.le_refl _)] at he
          refine z_iload_n hX rfl dX1_cycles_106 ?_
          (try rw [← hQ])
          refine z_ireturn hX dX1_cycles_107 (by omega) (by omega) ?_
          refine ⟨s1, A1, hs, hA, ?_, rfl⟩
          rw [if_pos hok, ← he]
          simp [cyN]
        · rw [er_cons (show i < 8 by omega), List.flatMap_cons] at he
          have a0 : A1 0 = A 0 := hA 0 (by decide)
          refine z_aload_n hX rfl (by first | rfl | exact va_rf_r _) dX1_cycles_25 ?_
          refine z_iload_n hX rfl dX1_cycles_26 ?_
          refine z_iload_n hX rfl dX1_cycles_27 ?_
          refine z_callv (z_runV hX (m_starts _ _ hD ⟨h0, by omega⟩ ⟨h0, by omega⟩) (cwV 2 hX.ts (lw_V q1603 q1605 qs43 q71 q1606) rfl rfl rfl (by decide +kernel) (zroom (by decide) (by decide))) dX1_cycles_28 mM_0 (ci := 1) rfl rfl rfl rfl (by first | exact Nat.le_of_ble_eq_true rfl | simp [va_rf_c, Value.category]) (zhf (by omega) (by omega))) (fun μ_28 h_28 => ?_)
          obtain ⟨t, rfl, ht⟩ := h_28; rw [gm_low] at ht; generalize hs4 : zg (zg (zg (zg s1 18 0) 20 i) 21 i) 19 t = s4
          have k1 : sag [18, 19, 20, 21] s1 s4 := by rw [← hs4]; exact (((sag.up (by simp)).up2 (by simp)).up2 (by simp)).up2 (by simp)
          have k18 : s4 18 = 0 := by rw [← hs4, zg_n (by decide), zg_n (by decide), zg_n (by decide), zg_s]
          have k20 : s4 20 = i := by rw [← hs4, zg_n (by decide), zg_n (by decide), zg_s]
          have k21 : s4 21 = i := by rw [← hs4, zg_n (by decide), zg_s]
          have k19 : gM (s4 19) (lowT i) := by rw [← hs4, zg_s]; exact ht
          refine z_aload_n hX rfl (by first | rfl | exact va_rf_r _) dX1_cycles_31 ?_
          refine z_iconst hX dX1_cycles_32 ?_
          refine z_callb (z_runV hX (m_go1 _ _ hD (by rw [a0]; exact hg) ⟨h0, by omega⟩ ⟨h0, by omega⟩ k20 k21 (lowT_u ⟨h0, by omega⟩) k18 k19) (cwV 1 hX.ts (lw_V q1607 q1609 qs44 q71 q1610) rfl rfl rfl (by decide +kernel) (zroom (by decide) (by decide))) dX1_cycles_33 mM_0 (ci := 1) rfl rfl rfl rfl (by first | exact Nat.le_of_ble_eq_true rfl | simp [va_rf_c, Value.category]) (zhf (by omega) (by omega))) (fun r_33 μ_33 h_33 => ?_)
          obtain ⟨s3, A3, h3, h4, h5, rfl⟩ := goQ_nx h_33
          refine z_istore hX (lv' := [_, _, _, _, _]) (Nat.le_of_ble_eq_true rfl) (by first | exact zpre_0 | exact zpre_n rfl | exact zpre_1 rfl rfl | exact zpre_1 rfl (va_rf_c _)) rfl dX1_cycles_36 ?_
          rw [a0] at h5
          refine inner i _ _ s3 A3 c h0 (by omega) ((hs.tr k1 (ks := kcS) (by intro k hk; simp only [List.mem_cons, List.not_mem_nil, or_false, not_or] at hk ⊢; omega)).tr h3 (by intro k hk; simp only [List.mem_cons, List.not_mem_nil, or_false, not_or] at hk ⊢; omega)) (hA.tr h4 (by intro k hk; simp only [List.mem_cons, List.not_mem_nil, or_false, not_or] at hk ⊢; omega)) (by rw [h3 20 (by decide)]; exact k20) (by rw [h3 21 (by decide)]; exact k21) h5 (fun s2 A2 g1 g2 y => ?_)
          refine z_iinc hX (lv' := [_, _, _, _, _]) rfl (Nat.le_of_ble_eq_true rfl) (by first | exact zpre_0 | exact zpre_n rfl | exact zpre_1 rfl rfl | exact zpre_1 rfl (va_rf_c _)) rfl dX1_cycles_100 ?_
          refine z_goto hX (tgt := 19) dX1_cycles_103 rfl ?_
          refine ih (i + 1) s2 A2 _ (by omega) (by omega) (by omega) g1 g2 ?_ _
          rw [← he]
          simp only [cyN, List.map_append, List.sum_append]
          omega
    refine z_iconst hX dX1_cycles_15 ?_
    refine z_istore_n hX (lv' := [_, _, _, _, _]) (Nat.le_of_ble_eq_true rfl) (by first | exact zpre_0 | exact zpre_n rfl | exact zpre_1 rfl rfl | exact zpre_1 rfl (va_rf_c _)) rfl dX1_cycles_16 ?_
    refine z_iconst hX dX1_cycles_17 ?_
    refine z_istore_n hX (lv' := [_, _, _, _, _]) (Nat.le_of_ble_eq_true rfl) (by first | exact zpre_0 | exact zpre_n rfl | exact zpre_1 rfl rfl | exact zpre_1 rfl (va_rf_c _)) rfl dX1_cycles_18 ?_
    exact outer 9 0 s A 0 (by omega) (by omega) (by omega) sag.rf sag.rf (by rw [Int.zero_add]; rfl) none
  · refine z_ldc hX (z := -1000002) q1511 (by decide) dX1_cycles_12 ?_
    (try rw [← hQ])
    refine z_ireturn hX dX1_cycles_14 (by omega) (by omega) ?_
    exact ⟨s, A, sag.rf, sag.rf, by rw [if_neg (by simpa using h_9)]; rfl, rfl⟩
