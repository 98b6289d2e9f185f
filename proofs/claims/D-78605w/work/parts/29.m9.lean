/-! MODEL 9: found cycles, bounds, exchange -/
set_option maxRecDepth 100000
/-- what was found last -/
def fS (s : Nat → Int) (A : Nat → Int → Int) : bT → Prop
  | none => s 7 = -1000001
  | some b => s 7 = b.2.2.length ∧ b.2.2.length ≤ 8 ∧ s 8 = b.1 ∧ s 9 = b.2.1 ∧ rowIs (A 6) b.2.2
def redB (b : Int × Int × List Int) : Int × Int × List Int := (b.1 / (Int.gcd b.1 b.2.1 : Int), b.2.1 / (Int.gcd b.1 b.2.1 : Int), b.2.2)
def newF (φ : bT) : bT → bT
  | none => φ
  | some b => some (redB b)
def lenB : bT → Int
  | none => -1000001
  | some b => b.2.2.length
abbrev kfS : List Nat := [7, 8, 9, 18, 19, 20, 21, 23, 24, 25]
abbrev kfA : List Nat := [6, 17, 22]
theorem fS_ag {s s' : Nat → Int} {A A' : Nat → Int → Int} {b : bT} (h : fS s A b) (h1 : s' 7 = s 7) (h2 : s' 8 = s 8) (h3 : s' 9 = s 9) (h4 : A' 6 = A 6) : fS s' A' b := by
  cases b with
  | none => show s' 7 = _; rw [h1]; exact h
  | some b =>
    obtain ⟨k1, k2, k3, k4, k5⟩ := h
    exact ⟨by rw [h1]; exact k1, k2, by rw [h2]; exact k3, by rw [h3]; exact k4, by rw [h4]; exact k5⟩
def fnQ (E : zE) (ν : zM) (m0 : Nat) (ad : Nat → Nat) (s : Nat → Int) (A : Nat → Int → Int) (φ β : bT) : Int → zM → Prop := fun r μ' => ∃ s' A', sag kfS s s' ∧ sag kfA A A' ∧ lenB β = r ∧ fS s' A' (newF φ β) ∧ mM E ν m0 ad s' A' = μ'
theorem fnQ_of {E : zE} {ν : zM} {m0 : Nat} {ad : Nat → Nat} {s s1 : Nat → Int} {A A1 : Nat → Int → Int} {φ β : bT} {r : Int} {μ' : zM} (hf : fS s A φ) (hs : sag ksS s s1) (hA : sag ksA A A1) (hb : bS s1 A1 β) (h : fndP E ν m0 ad s1 A1 β r μ') : fnQ E ν m0 ad s A φ β r μ' := by
  cases β with
  | none =>
    obtain ⟨h1, h2⟩ := h
    exact ⟨s1, A1, hs.mono (by intro k hk; simp only [List.mem_cons, List.not_mem_nil, or_false, not_or] at hk ⊢; omega), hA.mono (by intro k hk; simp only [List.mem_cons, List.not_mem_nil, or_false, not_or] at hk ⊢; omega), h1.symm, fS_ag hf (hs _ (by decide)) (hs _ (by decide)) (hs _ (by decide)) (hA _ (by decide)), h2⟩
  | some b =>
    obtain ⟨h1, B, h2, h3⟩ := h
    refine ⟨_, _, ?_, ?_, h1.symm, ?_, h3⟩
    · exact (((hs.mono (ks := kfS) (by intro k hk; simp only [List.mem_cons, List.not_mem_nil, or_false, not_or] at hk ⊢; omega)).up2 (by simp)).up2 (by simp)).up2 (by simp)
    · exact (hA.mono (ks := kfA) (by intro k hk; simp only [List.mem_cons, List.not_mem_nil, or_false, not_or] at hk ⊢; omega)).up2 (by simp)
    · refine ⟨by rw [zg_s]; rfl, hb.2.1, by rw [zg_n (by decide), zg_n (by decide), zg_s]; rfl, by rw [zg_n (by decide), zg_s]; rfl, by rw [zg_s]; exact h2⟩
theorem m_meanCycle (l : Launch) (E : zE) {ν : zM} {m0 : Nat} {ad : Nat → Nat} {s : Nat → Int} {A : Nat → Int → Int} (hD : mD m0 ad) (hg : gV (A 0)) {φ : bT} (hf : fS s A φ) : Met l yX1_meanCycle (ws_ yX1_meanCycle cX1_meanCycle 1 (some .int)) (zR 6 0 0) (va_Pc [.ref m0] (zPre E (mM E ν m0 ad s A))) (zQi E (fnQ E ν m0 ad s A φ (gBest 0 (A 0)))) 0 0 (zA E) := by
  refine zmet (cc := cX1_meanCycle) [_] (by decide) (Nat.le_of_ble_eq_true rfl) rfl rfl ?_
  intro X hl hX hinit; subst hl
  have hX : zOK X _ cX1_meanCycle RX1 (some .int) 1 := hX
  refine z_aload_n hX rfl (by first | rfl | exact va_rf_r _) dX1_meanCycle_0 ?_
  refine z_iconst hX dX1_meanCycle_1 ?_
  refine z_callv (z_runV hX (m_searches _ _ hD hg (by omega)) (cwV 1 hX.ts (lw_V q1599 q1601 qs42 q71 q1602) rfl rfl rfl (by decide +kernel) (zroom (by decide) (by decide))) dX1_meanCycle_2 mM_0 (ci := 1) rfl rfl rfl rfl (by first | exact Nat.le_of_ble_eq_true rfl | simp [va_rf_c, Value.category]) (zhf (by omega) (by omega))) (fun μ_2 h_2 => ?_)
  obtain ⟨s1, A1, h1, h2, h3, rfl⟩ := h_2
  refine z_aload_n hX rfl (by first | rfl | exact va_rf_r _) dX1_meanCycle_5 ?_
  refine z_calli (z_runV hX (m_finds _ _ hD h3) (cwV 0 hX.ts (lw_V q1641 q1643 qs51 q71 q1644) rfl rfl rfl (by decide +kernel) (zroom (by decide) (by decide))) dX1_meanCycle_6 mM_0 (ci := 1) rfl rfl rfl rfl (by first | exact Nat.le_of_ble_eq_true rfl | simp [va_rf_c, Value.category]) (zhf (by omega) (by omega))) (fun r_6 μ_6 h_6 => ?_)
  (try rw [← hQ])
  refine z_ireturn hX dX1_meanCycle_9 (by omega) (by omega) ?_
  exact fnQ_of hf h1 h2 h3 h_6
theorem m_ratioCycle (l : Launch) (E : zE) {ν : zM} {m0 : Nat} {ad : Nat → Nat} {s : Nat → Int} {A : Nat → Int → Int} (hD : mD m0 ad) (hg : gV (A 0)) {φ : bT} (hf : fS s A φ) : Met l yX1_ratioCycle (ws_ yX1_ratioCycle cX1_ratioCycle 1 (some .int)) (zR 6 0 0) (va_Pc [.ref m0] (zPre E (mM E ν m0 ad s A))) (zQi E (fnQ E ν m0 ad s A φ (gBest 1 (A 0)))) 0 0 (zA E) := by
  refine zmet (cc := cX1_ratioCycle) [_] (by decide) (Nat.le_of_ble_eq_true rfl) rfl rfl ?_
  intro X hl hX hinit; subst hl
  have hX : zOK X _ cX1_ratioCycle RX1 (some .int) 1 := hX
  refine z_aload_n hX rfl (by first | rfl | exact va_rf_r _) dX1_ratioCycle_0 ?_
  refine z_iconst hX dX1_ratioCycle_1 ?_
  refine z_callv (z_runV hX (m_searches _ _ hD hg (by omega)) (cwV 1 hX.ts (lw_V q1599 q1601 qs42 q71 q1602) rfl rfl rfl (by decide +kernel) (zroom (by decide) (by decide))) dX1_ratioCycle_2 mM_0 (ci := 1) rfl rfl rfl rfl (by first | exact Nat.le_of_ble_eq_true rfl | simp [va_rf_c, Value.category]) (zhf (by omega) (by omega))) (fun μ_2 h_2 => ?_)
  obtain ⟨s1, A1, h1, h2, h3, rfl⟩ := h_2
  refine z_aload_n hX rfl (by first | rfl | exact va_rf_r _) dX1_ratioCycle_5 ?_
  refine z_calli (z_runV hX (m_finds _ _ hD h3) (cwV 0 hX.ts (lw_V q1641 q1643 qs51 q71 q1644) rfl rfl rfl (by decide +kernel) (zroom (by decide) (by decide))) dX1_ratioCycle_6 mM_0 (ci := 1) rfl rfl rfl rfl (by first | exact Nat.le_of_ble_eq_true rfl | simp [va_rf_c, Value.category]) (zhf (by omega) (by omega))) (fun r_6 μ_6 h_6 => ?_)
  (try rw [← hQ])
  refine z_ireturn hX dX1_ratioCycle_9 (by omega) (by omega) ?_
  exact fnQ_of hf h1 h2 h3 h_6
theorem m_gainCycle (l : Launch) (E : zE) {ν : zM} {m0 : Nat} {ad : Nat → Nat} {s : Nat → Int} {A : Nat → Int → Int} (hD : mD m0 ad) (hg : gV (A 0)) {φ : bT} (hf : fS s A φ) : Met l yX1_gainCycle (ws_ yX1_gainCycle cX1_gainCycle 1 (some .int)) (zR 6 0 0) (va_Pc [.ref m0] (zPre E (mM E ν m0 ad s A))) (zQi E (fnQ E ν m0 ad s A φ (gBest 2 (A 0)))) 0 0 (zA E) := by
  refine zmet (cc := cX1_gainCycle) [_] (by decide) (Nat.le_of_ble_eq_true rfl) rfl rfl ?_
  intro X hl hX hinit; subst hl
  have hX : zOK X _ cX1_gainCycle RX1 (some .int) 1 := hX
  refine z_aload_n hX rfl (by first | rfl | exact va_rf_r _) dX1_gainCycle_0 ?_
  refine z_iconst hX dX1_gainCycle_1 ?_
  refine z_callv (z_runV hX (m_searches _ _ hD hg (by omega)) (cwV 1 hX.ts (lw_V q1599 q1601 qs42 q71 q1602) rfl rfl rfl (by decide +kernel) (zroom (by decide) (by decide))) dX1_gainCycle_2 mM_0 (ci := 1) rfl rfl rfl rfl (by first | exact Nat.le_of_ble_eq_true rfl | simp [va_rf_c, Value.category]) (zhf (by omega) (by omega))) (fun μ_2 h_2 => ?_)
  obtain ⟨s1, A1, h1, h2, h3, rfl⟩ := h_2
  refine z_aload_n hX rfl (by first | rfl | exact va_rf_r _) dX1_gainCycle_5 ?_
  refine z_calli (z_runV hX (m_finds _ _ hD h3) (cwV 0 hX.ts (lw_V q1641 q1643 qs51 q71 q1644) rfl rfl rfl (by decide +kernel) (zroom (by decide) (by decide))) dX1_gainCycle_6 mM_0 (ci := 1) rfl rfl rfl rfl (by first | exact Nat.le_of_ble_eq_true rfl | simp [va_rf_c, Value.category]) (zhf (by omega) (by omega))) (fun r_6 μ_6 h_6 => ?_)
  (try rw [← hQ])
  refine z_ireturn hX dX1_gainCycle_9 (by omega) (by omega) ?_
  exact fnQ_of hf h1 h2 h3 h_6
/-- bounds of the parameter: below, above, and whether there is none -/
abbrev nT : Type := Option (Int × Int) × Option (Int × Int) × Bool
def bndLo (a b : Int) : Option (Int × Int) → Bool
  | none => true
  | some x => decide (0 < gsg (-a * x.2 - x.1 * b))
def bndHi (a b : Int) : Option (Int × Int) → Bool
  | none => true
  | some x => decide (gsg (a * x.2 - x.1 * (-b)) < 0)
def bnd (x : nT) (a b : Int) : nT := if b = 0 then (x.1, x.2.1, x.2.2 || decide (a < 0)) else if 0 < b then (if bndLo a b x.1 = true then (some (-a, b), x.2.1, x.2.2) else x) else (if bndHi a b x.2.1 = true then (x.1, some (a, -b), x.2.2) else x)
def oS (s : Nat → Int) (h u d : Nat) : Option (Int × Int) → Prop
  | none => s h = zb false
  | some x => s h = zb true ∧ s u = x.1 ∧ s d = x.2 ∧ (-792 ≤ x.1 ∧ x.1 ≤ 792) ∧ (1 ≤ x.2 ∧ x.2 ≤ 72)
def nS (s : Nat → Int) (x : nT) : Prop := oS s 31 33 34 x.1 ∧ oS s 32 35 36 x.2.1 ∧ s 37 = zb x.2.2
theorem oS_ag {s s' : Nat → Int} {h u d : Nat} {x : Option (Int × Int)} (k : oS s h u d x) (h1 : s' h = s h) (h2 : s' u = s u) (h3 : s' d = s d) : oS s' h u d x := by
  cases x with
  | none => show s' h = _; rw [h1]; exact k
  | some x => exact ⟨by rw [h1]; exact k.1, by rw [h2]; exact k.2.1, by rw [h3]; exact k.2.2.1, k.2.2.2⟩
abbrev kbS : List Nat := [31, 32, 33, 34, 35, 36, 37]
theorem m_bounds (l : Launch) (E : zE) {ν : zM} {m0 : Nat} {ad : Nat → Nat} {s : Nat → Int} {A : Nat → Int → Int} (hD : mD m0 ad) {x : nT} (hx : nS s x) {a b : Int} (ha : -792 ≤ a ∧ a ≤ 792) (hb : -72 ≤ b ∧ b ≤ 72) : Met l yX1_bounds (ws_ yX1_bounds cX1_bounds 5 none) (zR 2 0 0) (va_Pc [.ref m0, .long (zJ a), .long (zJ b)] (zPre E (mM E ν m0 ad s A))) (zQv E (fun μ' => ∃ s', sag kbS s s' ∧ nS s' (bnd x a b) ∧ mM E ν m0 ad s' A = μ')) 0 0 (zA E) := by
  obtain ⟨lo, hi, nv⟩ := x
  obtain ⟨k1, k2, k3⟩ := hx
  simp only at k1 k2 k3
  refine zmet (cc := cX1_bounds) [_, _, _, _, _] (by decide) (Nat.le_of_ble_eq_true rfl) rfl rfl ?_
  intro X hl hX hinit; subst hl
  have hX : zOK X _ cX1_bounds RX1 none 5 := hX
  generalize hQ : MQ _ _ _ _ _ _ _ = Q
  have same : bnd (lo, hi, nv) a b = (lo, hi, nv) → zW X (zR 2 0 0) E (mM E ν m0 ad s A) 0 0 Q 126 [some (.ref m0), some (.long (zJ a)), none, some (.long (zJ b)), none] [] := by
    intro h
    (try rw [← hQ])
    refine z_return hX dX1_bounds_126 (by omega) (by omega) ?_
    exact ⟨s, sag.rf, by rw [h]; exact ⟨k1, k2, k3⟩, rfl⟩
  have newLo : 0 < b → bndLo a b lo = true → zW X (zR 2 0 0) E (mM E ν m0 ad s A) 0 0 Q 61 [some (.ref m0), some (.long (zJ a)), none, some (.long (zJ b)), none] [] := by
    intro hb0 h
    refine z_aload_n hX rfl (by first | rfl | exact va_rf_r _) dX1_bounds_61 ?_
    refine z_iconst hX dX1_bounds_62 ?_
    refine zm_putz hX hD (b := true) 31 (by decide) q1401 dX1_bounds_63 rfl mset_31 ?_
    refine z_aload_n hX rfl (by first | rfl | exact va_rf_r _) dX1_bounds_66 ?_
    refine z_lload_n hX rfl dX1_bounds_67 ?_
    refine z_lneg hX dX1_bounds_68 ?_
    refine zm_putl hX hD 33 (by decide) q1403 dX1_bounds_69 rfl mset_33 ?_
    refine z_aload_n hX rfl (by first | rfl | exact va_rf_r _) dX1_bounds_72 ?_
    refine z_lload_n hX rfl dX1_bounds_73 ?_
    refine zm_putl hX hD 34 (by decide) q1404 dX1_bounds_74 rfl mset_34 ?_
    refine z_goto hX (tgt := 126) dX1_bounds_77 rfl ?_
    (try rw [← hQ])
    refine z_return hX dX1_bounds_126 (by omega) (by omega) ?_
    refine ⟨_, ((sag.up (ks := kbS) (by simp)).up2 (by simp)).up2 (by simp), ?_, rfl⟩
    rw [bnd, if_neg (by omega), if_pos hb0, if_pos h]
    refine ⟨⟨by rw [zg_n (by decide), zg_n (by decide), zg_s], by rw [zg_n (by decide), zg_s], by rw [zg_s], by omega, by omega⟩, oS_ag k2 ?_ ?_ ?_, ?_⟩
    · rw [zg_n (by decide), zg_n (by decide), zg_n (by decide)]
    · rw [zg_n (by decide), zg_n (by decide), zg_n (by decide)]
    · rw [zg_n (by decide), zg_n (by decide), zg_n (by decide)]
    · rw [zg_n (by decide), zg_n (by decide), zg_n (by decide)]; exact k3
  have newHi : b < 0 → bndHi a b hi = true → zW X (zR 2 0 0) E (mM E ν m0 ad s A) 0 0 Q 110 [some (.ref m0), some (.long (zJ a)), none, some (.long (zJ b)), none] [] := by
    intro hb0 h
    refine z_aload_n hX rfl (by first | rfl | exact va_rf_r _) dX1_bounds_110 ?_
    refine z_iconst hX dX1_bounds_111 ?_
    refine zm_putz hX hD (b := true) 32 (by decide) q1402 dX1_bounds_112 rfl mset_32 ?_
    refine z_aload_n hX rfl (by first | rfl | exact va_rf_r _) dX1_bounds_115 ?_
    refine z_lload_n hX rfl dX1_bounds_116 ?_
    refine zm_putl hX hD 35 (by decide) q1405 dX1_bounds_117 rfl mset_35 ?_
    refine z_aload_n hX rfl (by first | rfl | exact va_rf_r _) dX1_bounds_120 ?_
    refine z_lload_n hX rfl dX1_bounds_121 ?_
    refine z_lneg hX dX1_bounds_122 ?_
    refine zm_putl hX hD 36 (by decide) q1406 dX1_bounds_123 rfl mset_36 ?_
    (try rw [← hQ])
    refine z_return hX dX1_bounds_126 (by omega) (by omega) ?_
    refine ⟨_, ((sag.up (ks := kbS) (by simp)).up2 (by simp)).up2 (by simp), ?_, rfl⟩
    rw [bnd, if_neg (by omega), if_neg (by omega), if_pos h]
    refine ⟨oS_ag k1 ?_ ?_ ?_, ⟨by rw [zg_n (by decide), zg_n (by decide), zg_s], by rw [zg_n (by decide), zg_s], by rw [zg_s], by omega, by omega⟩, ?_⟩
    · rw [zg_n (by decide), zg_n (by decide), zg_n (by decide)]
    · rw [zg_n (by decide), zg_n (by decide), zg_n (by decide)]
    · rw [zg_n (by decide), zg_n (by decide), zg_n (by decide)]
    · rw [zg_n (by decide), zg_n (by decide), zg_n (by decide)]; exact k3
  have at80 : b ≤ 0 ∨ bndLo a b lo = false → ¬ b = 0 → zW X (zR 2 0 0) E (mM E ν m0 ad s A) 0 0 Q 80 [some (.ref m0), some (.long (zJ a)), none, some (.long (zJ b)), none] [] := by
    intro h hb0
    refine z_lload_n hX rfl dX1_bounds_80 ?_
    refine z_lconst hX (z := 0) (by decide) dX1_bounds_81 ?_
    refine z_lcmp_ge hX (by omega) (by omega) dX1_bounds_82 dX1_bounds_83 (tgt := 126) rfl (fun h_82 => ?_) (fun h_82 => ?_)
    · refine same ?_
      have h2 : bndLo a b lo = false := by
        rcases h with q | q
        · omega
        · exact q
      rw [bnd, if_neg hb0, if_pos (by omega), if_neg (by rw [h2]; decide)]
    · cases hi with
      | none =>
        have k2' : s 32 = zb false := k2
        refine z_aload_n hX rfl (by first | rfl | exact va_rf_r _) dX1_bounds_86 ?_
        refine zm_get hX 32 (by decide) q1402 dX1_bounds_87 rfl rfl ?_
        rw [k2']
        refine z_if_eq_b hX dX1_bounds_90 (tgt := 110) rfl (fun h_90 => ?_) (fun h_90 => ?_)
        · exact newHi (by omega) rfl
        · exact absurd h_90 (by decide)
      | some x =>
        obtain ⟨u, d⟩ := x
        obtain ⟨j1, j2, j3, j4, j5⟩ := k2
        simp only at j1 j2 j3 j4 j5
        refine z_aload_n hX rfl (by first | rfl | exact va_rf_r _) dX1_bounds_86 ?_
        refine zm_get hX 32 (by decide) q1402 dX1_bounds_87 rfl rfl ?_
        rw [j1]
        refine z_if_eq_b hX dX1_bounds_90 (tgt := 110) rfl (fun h_90 => ?_) (fun h_90 => ?_)
        · exact absurd h_90 (by decide)
        · have hr := gsg_r (a * d - u * (-b))
          refine z_lload_n hX rfl dX1_bounds_93 ?_
          refine z_lload_n hX rfl dX1_bounds_94 ?_
          refine z_lneg hX dX1_bounds_95 ?_
          refine z_aload_n hX rfl (by first | rfl | exact va_rf_r _) dX1_bounds_96 ?_
          refine zm_get hX 35 (by decide) q1405 dX1_bounds_97 rfl rfl ?_
          refine z_aload_n hX rfl (by first | rfl | exact va_rf_r _) dX1_bounds_100 ?_
          refine zm_get hX 36 (by decide) q1406 dX1_bounds_101 rfl rfl ?_
          refine z_calli (z_runS hX (m_compares _ _ _ (by omega) (by omega) (c := s 35) (d := s 36) (by omega) (by omega)) (va_cwS 4 hX.ts (lw_S q1627 q1628 q71 q1629) rfl rfl rfl (by decide +kernel) (zroom (by decide) (by decide))) dX1_bounds_104 rfl rfl rfl (by first | exact Nat.le_of_ble_eq_true rfl | simp [va_rf_c, Value.category]) (zhf (by omega) (by omega))) (fun r_104 μ_104 h_104 => ?_)
          obtain ⟨rfl, rfl⟩ := h_104; rw [j2, j3]
          refine z_if_ge hX (by omega) dX1_bounds_107 (tgt := 126) rfl (fun h_107 => ?_) (fun h_107 => ?_)
          · refine same ?_
            rw [bnd, if_neg hb0, if_neg (by omega), if_neg (by simp only [bndHi, decide_eq_true_eq]; omega)]
          · refine newHi (by omega) ?_
            simp only [bndHi, decide_eq_true_eq]; omega
  have setN : ∀ (r : Bool), b = 0 → (r = (nv || decide (a < 0))) → zW X (zR 2 0 0) E (mM E ν m0 ad s A) 0 0 Q 25 [some (.ref m0), some (.long (zJ a)), none, some (.long (zJ b)), none] [.int (zI (zb r)), .ref m0] := by
    intro r hb0 hr
    refine zm_putz hX hD 37 (by decide) q1407 dX1_bounds_25 rfl mset_37 ?_
    refine z_goto hX (tgt := 126) dX1_bounds_28 rfl ?_
    (try rw [← hQ])
    refine z_return hX dX1_bounds_126 (by omega) (by omega) ?_
    refine ⟨_, sag.up (by simp), ?_, rfl⟩
    rw [bnd, if_pos hb0]
    exact ⟨oS_ag k1 (zg_n (by decide)) (zg_n (by decide)) (zg_n (by decide)), oS_ag k2 (zg_n (by decide)) (zg_n (by decide)) (zg_n (by decide)), by rw [zg_s, hr]⟩
  refine z_lload_n hX rfl dX1_bounds_0 ?_
  refine z_lconst hX (z := 0) (by decide) dX1_bounds_1 ?_
  refine z_lcmp_ne hX (by omega) (by omega) dX1_bounds_2 dX1_bounds_3 (tgt := 31) rfl (fun h_2 => ?_) (fun h_2 => ?_)
  · refine z_lload_n hX rfl dX1_bounds_31 ?_
    refine z_lconst hX (z := 0) (by decide) dX1_bounds_32 ?_
    refine z_lcmp_le hX (by omega) (by omega) dX1_bounds_33 dX1_bounds_34 (tgt := 80) rfl (fun h_33 => ?_) (fun h_33 => ?_)
    · exact at80 (Or.inl (by omega)) h_2
    · cases lo with
      | none =>
        have k1' : s 31 = zb false := k1
        refine z_aload_n hX rfl (by first | rfl | exact va_rf_r _) dX1_bounds_37 ?_
        refine zm_get hX 31 (by decide) q1401 dX1_bounds_38 rfl rfl ?_
        rw [k1']
        refine z_if_eq_b hX dX1_bounds_41 (tgt := 61) rfl (fun h_41 => ?_) (fun h_41 => ?_)
        · exact newLo (by omega) rfl
        · exact absurd h_41 (by decide)
      | some x =>
        obtain ⟨u, d⟩ := x
        obtain ⟨j1, j2, j3, j4, j5⟩ := k1
        simp only at j1 j2 j3 j4 j5
        refine z_aload_n hX rfl (by first | rfl | exact va_rf_r _) dX1_bounds_37 ?_
        refine zm_get hX 31 (by decide) q1401 dX1_bounds_38 rfl rfl ?_
        rw [j1]
        refine z_if_eq_b hX dX1_bounds_41 (tgt := 61) rfl (fun h_41 => ?_) (fun h_41 => ?_)
        · exact absurd h_41 (by decide)
        · have hr := gsg_r (-a * d - u * b)
          refine z_lload_n hX rfl dX1_bounds_44 ?_
          refine z_lneg hX dX1_bounds_45 ?_
          refine z_lload_n hX rfl dX1_bounds_46 ?_
          refine z_aload_n hX rfl (by first | rfl | exact va_rf_r _) dX1_bounds_47 ?_
          refine zm_get hX 33 (by decide) q1403 dX1_bounds_48 rfl rfl ?_
          refine z_aload_n hX rfl (by first | rfl | exact va_rf_r _) dX1_bounds_51 ?_
          refine zm_get hX 34 (by decide) q1404 dX1_bounds_52 rfl rfl ?_
          refine z_calli (z_runS hX (m_compares _ _ _ (by omega) (by omega) (c := s 33) (d := s 34) (by omega) (by omega)) (va_cwS 4 hX.ts (lw_S q1627 q1628 q71 q1629) rfl rfl rfl (by decide +kernel) (zroom (by decide) (by decide))) dX1_bounds_55 rfl rfl rfl (by first | exact Nat.le_of_ble_eq_true rfl | simp [va_rf_c, Value.category]) (zhf (by omega) (by omega))) (fun r_55 μ_55 h_55 => ?_)
          obtain ⟨rfl, rfl⟩ := h_55; rw [j2, j3]
          refine z_if_le hX (by omega) dX1_bounds_58 (tgt := 80) rfl (fun h_58 => ?_) (fun h_58 => ?_)
          · refine at80 (Or.inr ?_) h_2
            simp only [bndLo, decide_eq_false_iff_not]; omega
          · refine newLo (by omega) ?_
            simp only [bndLo, decide_eq_true_eq]; omega
  · refine z_aload_n hX rfl (by first | rfl | exact va_rf_r _) dX1_bounds_6 ?_
    refine z_aload_n hX rfl (by first | rfl | exact va_rf_r _) dX1_bounds_7 ?_
    refine zm_get hX 37 (by decide) q1407 dX1_bounds_8 rfl rfl ?_
    rw [k3]
    refine z_if_ne_b hX dX1_bounds_11 (tgt := 20) rfl (fun h_11 => ?_) (fun h_11 => ?_)
    · refine z_iconst hX dX1_bounds_20 ?_
      refine z_goto hX (tgt := 25) dX1_bounds_21 rfl ?_
      exact setN true h_2 (by rw [h_11]; rfl)
    · refine z_lload_n hX rfl dX1_bounds_14 ?_
      refine z_lconst hX (z := 0) (by decide) dX1_bounds_15 ?_
      refine z_lcmp_ge hX (by omega) (by omega) dX1_bounds_16 dX1_bounds_17 (tgt := 24) rfl (fun h_16 => ?_) (fun h_16 => ?_)
      · refine z_iconst hX dX1_bounds_24 ?_
        exact setN false h_2 (by rw [h_11]; simp; omega)
      · refine z_iconst hX dX1_bounds_20 ?_
        refine z_goto hX (tgt := 25) dX1_bounds_21 rfl ?_
        exact setN true h_2 (by rw [h_11]; simp; omega)
