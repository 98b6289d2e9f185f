/-! MODEL 13: the length of the shortest conversion -/
set_option maxRecDepth 100000
def lnM (a : Int → Int) (p q : Int) (m : Int) (w : List Int) : Int := if lnW a p q w < m then lnW a p q w else m
def lnFar : Int := 4000000000000000000
def lnF (a : Int → Int) (f t p q : Int) : Int :=
  if unbF a f t p q = true then -1000005 else if f = t then 0 else if (gP a f t).foldl (lnM a p q) lnFar = lnFar then -1000001 else (gP a f t).foldl (lnM a p q) lnFar
def lnR (a : Int → Int) (f t p q : Int) : Int :=
  if (0 ≤ f ∧ f ≤ 7) ∧ (0 ≤ t ∧ t ≤ 7) ∧ (-999 ≤ p ∧ p ≤ 999) ∧ 1 ≤ q ∧ q ≤ 99 then lnF a f t p q else gBAD
theorem m_length (l : Launch) (E : zE) {ν : zM} {m0 : Nat} {ad : Nat → Nat} {s : Nat → Int} {A : Nat → Int → Int} (hD : mD m0 ad) (hg : gV (A 0)) {f t p q : Int} (hf : iR f) (ht : iR t) (hp : iR p) (hq : iR q) : Met l yX1_length (ws_ yX1_length cX1_length 10 (some .long)) (zR 6 0 0) (va_Pc [.ref m0, .int (zI f), .int (zI t), .int (zI p), .int (zI q)] (zPre E (mM E ν m0 ad s A))) (zQl E (fun r μ' => ∃ s' A', sag kcS s s' ∧ sag [17] A A' ∧ lnR (A 0) f t p q = r ∧ mM E ν m0 ad s' A' = μ')) 0 0 (zA E) := by
  refine zmet (cc := cX1_length) [_, _, _, _, _, _, _, _, _, _] (by decide) (Nat.le_of_ble_eq_true rfl) rfl rfl ?_
  intro X hl hX hinit; subst hl
  have hX : zOK X _ cX1_length RX1 (some .long) 10 := hX
  generalize hQ : MQ _ _ _ _ _ _ _ = Q
  have inner : (0 ≤ f ∧ f ≤ 7) ∧ (0 ≤ t ∧ t ≤ 7) ∧ (-999 ≤ p ∧ p ≤ 999) ∧ 1 ≤ q ∧ q ≤ 99 → ¬ f = t → unbF (A 0) f t p q = false → ∀ (L : List (List Int)) (r : Bool) (s1 : Nat → Int) (A1 : Nat → Int → Int) (m : Int), sag kcS s s1 → sag [17] A A1 → s1 20 = f → s1 21 = t → -1000000 ≤ m → m ≤ lnFar → nxW (A 0) f t (fun v => decide (v = f)) s1 A1 r L → L.foldl (lnM (A 0) p q) m = (gP (A 0) f t).foldl (lnM (A 0) p q) lnFar → ∀ y z, zW X (zR 6 0 0) E (mM E ν m0 ad s1 A1) 0 0 Q 88 [some (.ref m0), some (.int (zI f)), some (.int (zI t)), some (.int (zI p)), some (.int (zI q)), some (.long (zJ m)), none, some (.int (zI (zb r))), y, z] [] := by
    intro hok hfz hub L
    have hu : gu (fun v => decide (v = f)) ≤ 7 := gu_taken (w := f) (by omega) (by omega) (by simp)
    induction L with
    | nil =>
      intro r s1 A1 m hs hA h20 h21 hm1 hm2 hn he y z
      unfold lnFar at hm2
      refine zW.mask [true, true, true, true, true, true, true, true, false, false] (lv' := [_, _, _, _, _, _, _, _, none, none]) rfl ?_
      rcases hn with ⟨rfl, -⟩ | ⟨-, p', L', h, -⟩
      · refine z_iload hX rfl dX1_length_88 ?_
        refine z_if_eq_b hX dX1_length_90 (tgt := 140) rfl (fun h_90 => ?_) (fun h_90 => ?_)
        · have hr : lnR (A 0) f t p q = if m = lnFar then -1000001 else m := by
            rw [lnR, if_pos hok, lnF, if_neg (by rw [hub]; decide), if_neg hfz, ← he]; rfl
          refine z_lload hX rfl dX1_length_140 ?_
          refine z_ldc2_w hX (z := 4000000000000000000) q1683 (by decide) dX1_length_142 ?_
          refine z_lcmp_ne hX (by omega) (by omega) dX1_length_145 dX1_length_146 (tgt := 155) rfl (fun h_145 => ?_) (fun h_145 => ?_)
          · refine z_lload hX rfl dX1_length_155 ?_
            (try rw [← hQ])
            refine z_lreturn hX dX1_length_157 (by omega) (by omega) ?_
            exact ⟨s1, A1, hs, hA, by rw [hr, if_neg (by unfold lnFar; omega)], rfl⟩
          · refine z_ldc2_w hX (z := -1000001) q1684 (by decide) dX1_length_149 ?_
            refine z_goto hX (tgt := 157) dX1_length_152 rfl ?_
            (try rw [← hQ])
            refine z_lreturn hX dX1_length_157 (by omega) (by omega) ?_
            exact ⟨s1, A1, hs, hA, by rw [hr, if_pos (by unfold lnFar; omega)], rfl⟩
        · exact absurd h_90 (by decide)
      · cases h
    | cons w L ih =>
      intro r s1 A1 m hs hA h20 h21 hm1 hm2 hn he y z
      rcases hn with ⟨-, h⟩ | ⟨rfl, p', L', h, hat⟩
      · cases h
      · obtain ⟨rfl, rfl⟩ : w = p' ∧ L = L' := by cases h; exact ⟨rfl, rfl⟩
        have a0 : A1 0 = A 0 := hA 0 (by decide)
        have hg1 : gV (A1 0) := by rw [a0]; exact hg
        obtain ⟨hx, hx18, hl, h1, hr, hm⟩ := hat
        have hm' : ∀ e ∈ w, 0 ≤ e ∧ e < A1 0 112 := by rw [a0]; exact hm
        have b1 := lnW_r hg (p := p) (q := q) (by omega) (by omega) hl hm
        have hat2 : atW (A1 0) f t (fun v => decide (v = f)) (s1 18) (s1 19) (A1 17) w L := by
          rw [a0]
          exact ⟨hx, hx18, hl, h1, hr, hm⟩
        have b2 := esum_w hg hl hm
        have b3 := esum_s hg hl hm
        have b4 := mul_r (q := q) (M := 1000) (by omega) (show -792 ≤ esum (A 0) 2 w ∧ esum (A 0) 2 w ≤ 792 by omega)
        have b5 := mul_r (q := p) (M := 1000) (by omega) (show -72 ≤ esum (A 0) 3 w ∧ esum (A 0) 3 w ≤ 72 by omega)
        have key : ∀ m2, -1000000 ≤ m2 → m2 ≤ lnFar → L.foldl (lnM (A 0) p q) m2 = (gP (A 0) f t).foldl (lnM (A 0) p q) lnFar → zW X (zR 6 0 0) E (mM E ν m0 ad s1 A1) 0 0 Q 128 [some (.ref m0), some (.int (zI f)), some (.int (zI t)), some (.int (zI p)), some (.int (zI q)), some (.long (zJ m)), none, some (.int (zI (zb true))), some (.long (zJ (lnW (A 0) p q w))), none] [.long (zJ m2)] := by
          intro m2 g1 g2 g3
          refine z_lstore hX (lv' := [_, _, _, _, _, _, _, _, _, _]) (Nat.le_of_ble_eq_true rfl) (by first | exact zpre_0 | exact zpre_n rfl | exact zpre_1 rfl rfl | exact zpre_1 rfl (va_rf_c _)) rfl rfl dX1_length_128 ?_
          refine z_aload_n hX rfl (by first | rfl | exact va_rf_r _) dX1_length_130 ?_
          refine z_iconst hX dX1_length_131 ?_
          refine z_callb (z_runV hX (m_go2 _ _ hD hg1 (by omega) (by omega) h20 h21 hu hat2) (cwV 1 hX.ts (lw_V q1607 q1609 qs44 q71 q1610) rfl rfl rfl (by decide +kernel) (zroom (by decide) (by decide))) dX1_length_132 mM_0 (ci := 1) rfl rfl rfl rfl (by first | exact Nat.le_of_ble_eq_true rfl | simp [va_rf_c, Value.category]) (zhf (by omega) (by omega))) (fun r_132 μ_132 h_132 => ?_)
          obtain ⟨s3, A3, h3, h4, h5, rfl⟩ := goQ_nx h_132
          refine z_istore hX (lv' := [_, _, _, _, _, _, _, _, _, _]) (Nat.le_of_ble_eq_true rfl) (by first | exact zpre_0 | exact zpre_n rfl | exact zpre_1 rfl rfl | exact zpre_1 rfl (va_rf_c _)) rfl dX1_length_135 ?_
          refine z_goto hX (tgt := 88) dX1_length_137 rfl ?_
          rw [a0] at h5
          exact ih _ s3 A3 m2 (hs.tr h3 (by intro k hk; simp only [List.mem_cons, List.not_mem_nil, or_false, not_or] at hk ⊢; omega)) (hA.tr h4 (by intro k hk; simp only [List.mem_cons, List.not_mem_nil, or_false, not_or] at hk ⊢; omega)) (by rw [h3 20 (by decide)]; exact h20) (by rw [h3 21 (by decide)]; exact h21) g1 g2 h5 g3 _ _
        refine zW.mask [true, true, true, true, true, true, true, true, false, false] (lv' := [_, _, _, _, _, _, _, _, none, none]) rfl ?_
        have b1' := b1
        unfold lnW at b1
        have hm3 : m ≤ 4000000000000000000 := hm2
        have hlw : lnW (A 0) p q w = q * esum (A 0) 2 w + p * esum (A 0) 3 w := rfl
        rw [List.foldl_cons, lnM] at he
        refine z_iload hX rfl dX1_length_88 ?_
        refine z_if_eq_b hX dX1_length_90 (tgt := 140) rfl (fun h_90 => ?_) (fun h_90 => ?_)
        · exact absurd h_90 (by decide)
        · refine z_iload hX rfl dX1_length_93 ?_
          refine z_i2l hX (by omega) dX1_length_95 ?_
          refine z_aload_n hX rfl (by first | rfl | exact va_rf_r _) dX1_length_96 ?_
          refine z_iconst hX dX1_length_97 ?_
          refine z_calll (z_runV hX (m_sum _ _ hD hg1 hx18 hl hr hm' (by omega)) (cwV 1 hX.ts (lw_V q1637 q1639 qs50 q71 q1640) rfl rfl rfl (by decide +kernel) (zroom (by decide) (by decide))) dX1_length_98 mM_0 (ci := 1) rfl rfl rfl rfl (by first | exact Nat.le_of_ble_eq_true rfl | simp [va_rf_c, Value.category]) (zhf (by omega) (by omega))) (fun r_98 μ_98 h_98 => ?_)
          obtain ⟨rfl, rfl⟩ := h_98; rw [a0]
          refine z_lmul hX dX1_length_101 ?_
          refine z_iload_n hX rfl dX1_length_102 ?_
          refine z_i2l hX (by omega) dX1_length_103 ?_
          refine z_aload_n hX rfl (by first | rfl | exact va_rf_r _) dX1_length_104 ?_
          refine z_iconst hX dX1_length_105 ?_
          refine z_calll (z_runV hX (m_sum _ _ hD hg1 hx18 hl hr hm' (by omega)) (cwV 1 hX.ts (lw_V q1637 q1639 qs50 q71 q1640) rfl rfl rfl (by decide +kernel) (zroom (by decide) (by decide))) dX1_length_106 mM_0 (ci := 1) rfl rfl rfl rfl (by first | exact Nat.le_of_ble_eq_true rfl | simp [va_rf_c, Value.category]) (zhf (by omega) (by omega))) (fun r_106 μ_106 h_106 => ?_)
          obtain ⟨rfl, rfl⟩ := h_106; rw [a0]
          refine z_lmul hX dX1_length_109 ?_
          refine z_ladd hX dX1_length_110 ?_
          refine z_lstore hX (lv' := [_, _, _, _, _, _, _, _, _, _]) (Nat.le_of_ble_eq_true rfl) (by first | exact zpre_0 | exact zpre_n rfl | exact zpre_1 rfl rfl | exact zpre_1 rfl (va_rf_c _)) rfl rfl dX1_length_111 ?_
          refine z_lload hX rfl dX1_length_113 ?_
          refine z_lload hX rfl dX1_length_115 ?_
          refine z_lcmp_ge hX (by omega) (by omega) dX1_length_117 dX1_length_118 (tgt := 126) rfl (fun h_117 => ?_) (fun h_117 => ?_)
          · rw [if_neg (show ¬ lnW (A 0) p q w < m by rw [hlw]; omega)] at he
            refine z_lload hX rfl dX1_length_126 ?_
            exact key m hm1 hm2 he
          · rw [if_pos (show lnW (A 0) p q w < m by rw [hlw]; omega)] at he
            refine z_lload hX rfl dX1_length_121 ?_
            refine z_goto hX (tgt := 128) dX1_length_123 rfl ?_
            exact key _ b1'.1 (Int.le_trans b1'.2 (by unfold lnFar; omega)) he
  have bad : ¬ ((0 ≤ f ∧ f ≤ 7) ∧ (0 ≤ t ∧ t ≤ 7) ∧ (-999 ≤ p ∧ p ≤ 999) ∧ 1 ≤ q ∧ q ≤ 99) → zW X (zR 6 0 0) E (mM E ν m0 ad s A) 0 0 Q 41 [some (.ref m0), some (.int (zI f)), some (.int (zI t)), some (.int (zI p)), some (.int (zI q)), none, none, none, none, none] [] := by
    intro h
    refine z_ldc2_w hX (z := -1000002) q1669 (by decide) dX1_length_41 ?_
    (try rw [← hQ])
    refine z_lreturn hX dX1_length_44 (by omega) (by omega) ?_
    exact ⟨s, A, sag.rf, sag.rf, by rw [lnR, if_neg h]; rfl, rfl⟩
  refine z_iload_n hX rfl dX1_length_0 ?_
  refine z_callb (z_runS hX (m_isNode _ _ _ hf) (va_cwS 1 hX.ts (lw_S q1497 q1498 q71 q1499) rfl rfl rfl (by decide +kernel) (zroom (by decide) (by decide))) dX1_length_1 rfl rfl rfl (by first | exact Nat.le_of_ble_eq_true rfl | simp [va_rf_c, Value.category]) (zhf (by omega) (by omega))) (fun r_1 μ_1 h_1 => ?_)
  obtain ⟨rfl, rfl⟩ := h_1
  refine z_if_eq_b hX dX1_length_4 (tgt := 41) rfl (fun h_4 => ?_) (fun h_4 => ?_)
  · exact bad (by simp at h_4; omega)
  · refine z_iload_n hX rfl dX1_length_7 ?_
    refine z_callb (z_runS hX (m_isNode _ _ _ ht) (va_cwS 1 hX.ts (lw_S q1497 q1498 q71 q1499) rfl rfl rfl (by decide +kernel) (zroom (by decide) (by decide))) dX1_length_8 rfl rfl rfl (by first | exact Nat.le_of_ble_eq_true rfl | simp [va_rf_c, Value.category]) (zhf (by omega) (by omega))) (fun r_8 μ_8 h_8 => ?_)
    obtain ⟨rfl, rfl⟩ := h_8
    refine z_if_eq_b hX dX1_length_11 (tgt := 41) rfl (fun h_11 => ?_) (fun h_11 => ?_)
    · exact bad (by simp at h_11; omega)
    · refine z_iload_n hX rfl dX1_length_14 ?_
      refine z_i2l hX (by omega) dX1_length_15 ?_
      refine z_ldc2_w hX (z := -999) q1705 (by decide) dX1_length_16 ?_
      refine z_ldc2_w hX (z := 999) q1706 (by decide) dX1_length_19 ?_
      refine z_callb (z_runS hX (m_in _ _ _ (by omega) (by omega) (by omega)) (va_cwS 3 hX.ts (lw_S q1501 q1502 q71 q1503) rfl rfl rfl (by decide +kernel) (zroom (by decide) (by decide))) dX1_length_22 rfl rfl rfl (by first | exact Nat.le_of_ble_eq_true rfl | simp [va_rf_c, Value.category]) (zhf (by omega) (by omega))) (fun r_22 μ_22 h_22 => ?_)
      obtain ⟨rfl, rfl⟩ := h_22
      refine z_if_eq_b hX dX1_length_25 (tgt := 41) rfl (fun h_25 => ?_) (fun h_25 => ?_)
      · exact bad (by simp at h_25; omega)
      · refine z_iload hX rfl dX1_length_28 ?_
        refine z_i2l hX (by omega) dX1_length_30 ?_
        refine z_lconst hX (z := 1) (by decide) dX1_length_31 ?_
        refine z_ldc2_w hX (z := 99) q1508 (by decide) dX1_length_32 ?_
        refine z_callb (z_runS hX (m_in _ _ _ (by omega) (by omega) (by omega)) (va_cwS 3 hX.ts (lw_S q1501 q1502 q71 q1503) rfl rfl rfl (by decide +kernel) (zroom (by decide) (by decide))) dX1_length_35 rfl rfl rfl (by first | exact Nat.le_of_ble_eq_true rfl | simp [va_rf_c, Value.category]) (zhf (by omega) (by omega))) (fun r_35 μ_35 h_35 => ?_)
        obtain ⟨rfl, rfl⟩ := h_35
        refine z_if_ne_b hX dX1_length_38 (tgt := 45) rfl (fun h_38 => ?_) (fun h_38 => ?_)
        · have hok : (0 ≤ f ∧ f ≤ 7) ∧ (0 ≤ t ∧ t ≤ 7) ∧ (-999 ≤ p ∧ p ≤ 999) ∧ 1 ≤ q ∧ q ≤ 99 := by simp at h_4 h_11 h_25 h_38; omega
          refine z_aload_n hX rfl (by first | rfl | exact va_rf_r _) dX1_length_45 ?_
          refine z_iload_n hX rfl dX1_length_46 ?_
          refine z_iload_n hX rfl dX1_length_47 ?_
          refine z_iload_n hX rfl dX1_length_48 ?_
          refine z_i2l hX (by omega) dX1_length_49 ?_
          refine z_iload hX rfl dX1_length_50 ?_
          refine z_i2l hX (by omega) dX1_length_52 ?_
          refine z_callb (z_runV hX (m_isUnbounded _ _ hD hg hok.1 hok.2.1 (by omega) (by omega)) (cwV 4 hX.ts (lw_V q1707 q1709 qs54 q71 q1710) rfl rfl rfl (by decide +kernel) (zroom (by decide) (by decide))) dX1_length_53 mM_0 (ci := 1) rfl rfl rfl rfl (by first | exact Nat.le_of_ble_eq_true rfl | simp [va_rf_c, Value.category]) (zhf (by omega) (by omega))) (fun r_53 μ_53 h_53 => ?_)
          obtain ⟨s2, A2, hs, hA, hub, rfl⟩ := h_53
          refine z_if_eq_b hX dX1_length_56 (tgt := 63) rfl (fun h_56 => ?_) (fun h_56 => ?_)
          · subst h_56
            have a0 : A2 0 = A 0 := hA 0 (by decide)
            refine z_iload_n hX rfl dX1_length_63 ?_
            refine z_iload_n hX rfl dX1_length_64 ?_
            refine z_icmp_ne hX (by omega) (by omega) dX1_length_65 (tgt := 70) rfl (fun h_65 => ?_) (fun h_65 => ?_)
            · refine z_ldc2_w hX (z := 4000000000000000000) q1683 (by decide) dX1_length_70 ?_
              refine z_lstore hX (lv' := [_, _, _, _, _, _, _, _, _, _]) (Nat.le_of_ble_eq_true rfl) (by first | exact zpre_0 | exact zpre_n rfl | exact zpre_1 rfl rfl | exact zpre_1 rfl (va_rf_c _)) rfl rfl dX1_length_73 ?_
              refine z_aload_n hX rfl (by first | rfl | exact va_rf_r _) dX1_length_75 ?_
              refine z_iload_n hX rfl dX1_length_76 ?_
              refine z_iload_n hX rfl dX1_length_77 ?_
              refine z_callv (z_runV hX (m_starts _ _ hD ⟨hok.1.1, by omega⟩ ⟨hok.2.1.1, by omega⟩) (cwV 2 hX.ts (lw_V q1603 q1605 qs43 q71 q1606) rfl rfl rfl (by decide +kernel) (zroom (by decide) (by decide))) dX1_length_78 mM_0 (ci := 1) rfl rfl rfl rfl (by first | exact Nat.le_of_ble_eq_true rfl | simp [va_rf_c, Value.category]) (zhf (by omega) (by omega))) (fun μ_78 h_78 => ?_)
              obtain ⟨t1, rfl, ht1⟩ := h_78; generalize hs4 : zg (zg (zg (zg s2 18 0) 20 f) 21 t) 19 t1 = s4
              have k1 : sag [18, 19, 20, 21] s2 s4 := by rw [← hs4]; exact (((sag.up (by simp)).up2 (by simp)).up2 (by simp)).up2 (by simp)
              have k18 : s4 18 = 0 := by rw [← hs4, zg_n (by decide), zg_n (by decide), zg_n (by decide), zg_s]
              have k20 : s4 20 = f := by rw [← hs4, zg_n (by decide), zg_n (by decide), zg_s]
              have k21 : s4 21 = t := by rw [← hs4, zg_n (by decide), zg_s]
              have k19 : gM (s4 19) (fun v => decide (v = f)) := by rw [← hs4, zg_s]; simp only [if_neg h_65] at ht1; exact ht1
              refine z_aload_n hX rfl (by first | rfl | exact va_rf_r _) dX1_length_81 ?_
              refine z_iconst hX dX1_length_82 ?_
              refine z_callb (z_runV hX (m_go1 _ _ hD (by rw [a0]; exact hg) ⟨hok.1.1, by omega⟩ ⟨hok.2.1.1, by omega⟩ k20 k21 (gu_taken (w := f) (by omega) (by omega) (by simp)) k18 k19) (cwV 1 hX.ts (lw_V q1607 q1609 qs44 q71 q1610) rfl rfl rfl (by decide +kernel) (zroom (by decide) (by decide))) dX1_length_83 mM_0 (ci := 1) rfl rfl rfl rfl (by first | exact Nat.le_of_ble_eq_true rfl | simp [va_rf_c, Value.category]) (zhf (by omega) (by omega))) (fun r_83 μ_83 h_83 => ?_)
              obtain ⟨s3, A3, h3, h4, h5, rfl⟩ := goQ_nx h_83; rw [a0] at h5
              refine z_istore hX (lv' := [_, _, _, _, _, _, _, _, _, _]) (Nat.le_of_ble_eq_true rfl) (by first | exact zpre_0 | exact zpre_n rfl | exact zpre_1 rfl rfl | exact zpre_1 rfl (va_rf_c _)) rfl dX1_length_86 ?_
              exact inner hok h_65 hub _ _ s3 A3 lnFar ((hs.tr k1 (ks := kcS) (by intro k hk; simp only [List.mem_cons, List.not_mem_nil, or_false, not_or] at hk ⊢; omega)).tr h3 (by intro k hk; simp only [List.mem_cons, List.not_mem_nil, or_false, not_or] at hk ⊢; omega)) (hA.tr h4 (by intro k hk; simp only [List.mem_cons, List.not_mem_nil, or_false, not_or] at hk ⊢; omega)) (by rw [h3 20 (by decide)]; exact k20) (by rw [h3 21 (by decide)]; exact k21) (by unfold lnFar; omega) (Int.le_refl _) h5 rfl _ _
            · refine z_lconst hX (z := 0) (by decide) dX1_length_68 ?_
              (try rw [← hQ])
              refine z_lreturn hX dX1_length_69 (by omega) (by omega) ?_
              exact ⟨s2, A2, hs, hA, by rw [lnR, if_pos hok, lnF, if_neg (by rw [hub]; decide), if_pos h_65], rfl⟩
          · subst h_56
            refine z_ldc2_w hX (z := -1000005) q1719 (by decide) dX1_length_59 ?_
            (try rw [← hQ])
            refine z_lreturn hX dX1_length_62 (by omega) (by omega) ?_
            exact ⟨s2, A2, hs, hA, by rw [lnR, if_pos hok, lnF, if_pos hub], rfl⟩
        · exact bad (by simp at h_38; omega)
