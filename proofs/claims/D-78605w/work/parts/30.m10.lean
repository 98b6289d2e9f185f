/-! MODEL 10: feasible, convert -/
set_option maxRecDepth 100000
def bndA (a : Int → Int) (x : nT) (p : List Int) : nT := bnd x (esum a 2 p) (esum a 3 p)
def nAll (a : Int → Int) : nT := (gC a).foldl (bndA a) (none, none, false)
def nBoth (x : nT) : Bool := match x.1, x.2.1 with
  | some l, some h => decide (0 < gsg (l.1 * h.2 - h.1 * l.2))
  | _, _ => false
def oR (t : Bool) : Option (Int × Int) → Int
  | none => -1000001
  | some u => if t = true then u.1 / (Int.gcd u.1 u.2 : Int) else u.2 / (Int.gcd u.1 u.2 : Int)
def feasR (k : Int) (x : nT) : Int := if (x.2.2 || nBoth x) = true then -1000003 else if k < 2 then oR (decide (k = 0)) x.1 else oR (decide (k = 2)) x.2.1
abbrev knS : List Nat := [18, 19, 20, 21, 31, 32, 33, 34, 35, 36, 37]
theorem nS_ag {s s' : Nat → Int} {x : nT} (h : nS s x) (hs : ∀ k ∈ kbS, s' k = s k) : nS s' x := by
  refine ⟨oS_ag h.1 (hs _ (by simp)) (hs _ (by simp)) (hs _ (by simp)), oS_ag h.2.1 (hs _ (by simp)) (hs _ (by simp)) (hs _ (by simp)), ?_⟩
  rw [hs 37 (by simp)]
  exact h.2.2
theorem gcd_pos_r {u d : Int} (hd : 1 ≤ d ∧ d ≤ 72) : 0 < (Int.gcd u d : Int) ∧ (Int.gcd u d : Int) ≤ 72 ∧ u.tdiv (Int.gcd u d : Int) = u / (Int.gcd u d : Int) ∧ d.tdiv (Int.gcd u d : Int) = d / (Int.gcd u d : Int) := by
  have g1 : (Int.gcd u d : Int) ∣ u := Int.gcd_dvd_left _ _
  have g2 : (Int.gcd u d : Int) ∣ d := Int.gcd_dvd_right _ _
  have g3 : 0 < Int.gcd u d := Int.gcd_pos_of_ne_zero_right _ (by omega)
  have g4 : (Int.gcd u d : Int) ≤ d := Int.le_of_dvd (by omega) g2
  exact ⟨by omega, by omega, Int.tdiv_eq_ediv_of_dvd g1, Int.tdiv_eq_ediv_of_dvd g2⟩
theorem m_feasible (l : Launch) (E : zE) {ν : zM} {m0 : Nat} {ad : Nat → Nat} {s : Nat → Int} {A : Nat → Int → Int} (hD : mD m0 ad) (hg : gV (A 0)) {k : Int} (hk : iR k) : Met l yX1_feasible (ws_ yX1_feasible cX1_feasible 4 (some .long)) (zR 5 0 0) (va_Pc [.ref m0, .int (zI k)] (zPre E (mM E ν m0 ad s A))) (zQl E (fun r μ' => ∃ s' A', sag knS s s' ∧ sag [17] A A' ∧ (if 0 ≤ k ∧ k ≤ 3 then feasR k (nAll (A 0)) else gBAD) = r ∧ mM E ν m0 ad s' A' = μ')) 0 0 (zA E) := by
  refine zmet (cc := cX1_feasible) [_, _, _, _] (by decide) (Nat.le_of_ble_eq_true rfl) rfl rfl ?_
  intro X hl hX hinit; subst hl
  have hX : zOK X _ cX1_feasible RX1 (some .long) 4 := hX
  generalize hQ : MQ _ _ _ _ _ _ _ = Q
  have inner : ∀ (i : Int) (L : List (List Int)) (r : Bool) (s1 : Nat → Int) (A1 : Nat → Int → Int) (x : nT), 0 ≤ i → i < 8 → sag knS s s1 → sag [17] A A1 → s1 20 = i → s1 21 = i → nS s1 x → nxW (A 0) i i (lowT i) s1 A1 r L → (∀ s2 A2, sag knS s s2 → sag [17] A A2 → nS s2 (L.foldl (bndA (A 0)) x) → ∀ y, zW X (zR 5 0 0) E (mM E ν m0 ad s2 A2) 0 0 Q 78 [some (.ref m0), some (.int (zI k)), some (.int (zI i)), y] []) → zW X (zR 5 0 0) E (mM E ν m0 ad s1 A1) 0 0 Q 51 [some (.ref m0), some (.int (zI k)), some (.int (zI i)), some (.int (zI (zb r)))] [] := by
    intro i L
    induction L with
    | nil =>
      intro r s1 A1 x h0 h8 hs hA h20 h21 hb hn kk
      rcases hn with ⟨rfl, -⟩ | ⟨-, p, L', h, -⟩
      · refine z_iload_n hX rfl dX1_feasible_51 ?_
        refine z_if_eq_b hX dX1_feasible_52 (tgt := 78) rfl (fun h_52 => ?_) (fun h_52 => ?_)
        · exact kk s1 A1 hs hA hb _
        · exact absurd h_52 (by decide)
      · cases h
    | cons p L ih =>
      intro r s1 A1 x h0 h8 hs hA h20 h21 hb hn kk
      rcases hn with ⟨-, h⟩ | ⟨rfl, p', L', h, hat⟩
      · cases h
      · obtain ⟨rfl, rfl⟩ : p = p' ∧ L = L' := by cases h; exact ⟨rfl, rfl⟩
        have a0 : A1 0 = A 0 := hA 0 (by decide)
        have hg1 : gV (A1 0) := by rw [a0]; exact hg
        obtain ⟨hx, hx18, hl, h1, hr, hm⟩ := hat
        have hm' : ∀ e ∈ p, 0 ≤ e ∧ e < A1 0 112 := by rw [a0]; exact hm
        have b1 := esum_w hg hl hm
        have b2 := esum_s hg hl hm
        refine z_iload_n hX rfl dX1_feasible_51 ?_
        refine z_if_eq_b hX dX1_feasible_52 (tgt := 78) rfl (fun h_52 => ?_) (fun h_52 => ?_)
        · exact absurd h_52 (by decide)
        · refine z_aload_n hX rfl (by first | rfl | exact va_rf_r _) dX1_feasible_55 ?_
          refine z_aload_n hX rfl (by first | rfl | exact va_rf_r _) dX1_feasible_56 ?_
          refine z_iconst hX dX1_feasible_57 ?_
          refine z_calll (z_runV hX (m_sum _ _ hD hg1 hx18 hl hr hm' (by omega)) (cwV 1 hX.ts (lw_V q1637 q1639 qs50 q71 q1640) rfl rfl rfl (by decide +kernel) (zroom (by decide) (by decide))) dX1_feasible_58 mM_0 (ci := 1) rfl rfl rfl rfl (by first | exact Nat.le_of_ble_eq_true rfl | simp [va_rf_c, Value.category]) (zhf (by omega) (by omega))) (fun r_58 μ_58 h_58 => ?_)
          obtain ⟨rfl, rfl⟩ := h_58; rw [a0]
          refine z_aload_n hX rfl (by first | rfl | exact va_rf_r _) dX1_feasible_61 ?_
          refine z_iconst hX dX1_feasible_62 ?_
          refine z_calll (z_runV hX (m_sum _ _ hD hg1 hx18 hl hr hm' (by omega)) (cwV 1 hX.ts (lw_V q1637 q1639 qs50 q71 q1640) rfl rfl rfl (by decide +kernel) (zroom (by decide) (by decide))) dX1_feasible_63 mM_0 (ci := 1) rfl rfl rfl rfl (by first | exact Nat.le_of_ble_eq_true rfl | simp [va_rf_c, Value.category]) (zhf (by omega) (by omega))) (fun r_63 μ_63 h_63 => ?_)
          obtain ⟨rfl, rfl⟩ := h_63; rw [a0]
          refine z_callv (z_runV hX (m_bounds _ _ hD hb b1 b2) (cwV 2 hX.ts (lw_V q1749 q1751 qs60 q71 q1752) rfl rfl rfl (by decide +kernel) (zroom (by decide) (by decide))) dX1_feasible_66 mM_0 (ci := 1) rfl rfl rfl rfl (by first | exact Nat.le_of_ble_eq_true rfl | simp [va_rf_c, Value.category]) (zhf (by omega) (by omega))) (fun μ_66 h_66 => ?_)
          obtain ⟨s2, hs2, hb2, rfl⟩ := h_66
          have hat2 : atW (A1 0) i i (lowT i) (s2 18) (s2 19) (A1 17) p L := by
            rw [a0, hs2 18 (by decide), hs2 19 (by decide)]
            exact ⟨hx, hx18, hl, h1, hr, hm⟩
          refine z_aload_n hX rfl (by first | rfl | exact va_rf_r _) dX1_feasible_69 ?_
          refine z_iconst hX dX1_feasible_70 ?_
          refine z_callb (z_runV hX (m_go2 _ _ hD hg1 ⟨h0, h8⟩ ⟨h0, h8⟩ (by rw [hs2 20 (by decide)]; exact h20) (by rw [hs2 21 (by decide)]; exact h21) (lowT_u ⟨h0, h8⟩) hat2) (cwV 1 hX.ts (lw_V q1607 q1609 qs44 q71 q1610) rfl rfl rfl (by decide +kernel) (zroom (by decide) (by decide))) dX1_feasible_71 mM_0 (ci := 1) rfl rfl rfl rfl (by first | exact Nat.le_of_ble_eq_true rfl | simp [va_rf_c, Value.category]) (zhf (by omega) (by omega))) (fun r_71 μ_71 h_71 => ?_)
          obtain ⟨s3, A3, h3, h4, h5, rfl⟩ := goQ_nx h_71
          refine z_istore_n hX (lv' := [_, _, _, _]) (Nat.le_of_ble_eq_true rfl) (by first | exact zpre_0 | exact zpre_n rfl | exact zpre_1 rfl rfl | exact zpre_1 rfl (va_rf_c _)) rfl dX1_feasible_74 ?_
          refine z_goto hX (tgt := 51) dX1_feasible_75 rfl ?_
          rw [a0] at h5
          refine ih _ s3 A3 (bndA (A 0) x p) h0 h8 ((hs.tr hs2 (ks := knS) (by intro k hk; simp only [List.mem_cons, List.not_mem_nil, or_false, not_or] at hk ⊢; omega)).tr h3 (by intro k hk; simp only [List.mem_cons, List.not_mem_nil, or_false, not_or] at hk ⊢; omega)) (hA.tr h4 (by intro k hk; simp only [List.mem_cons, List.not_mem_nil, or_false, not_or] at hk ⊢; omega)) ?_ ?_ ?_ h5 kk
          · rw [h3 20 (by decide), hs2 20 (by decide)]; exact h20
          · rw [h3 21 (by decide), hs2 21 (by decide)]; exact h21
          · exact nS_ag hb2 (fun k hk => h3 k (by intro q; simp at hk q; omega))
  refine z_iload_n hX rfl dX1_feasible_0 ?_
  refine z_i2l hX (by omega) dX1_feasible_1 ?_
  refine z_lconst hX (z := 0) (by decide) dX1_feasible_2 ?_
  refine z_ldc2_w hX (z := 3) q1744 (by decide) dX1_feasible_3 ?_
  refine z_callb (z_runS hX (m_in _ _ _ (by omega) (by omega) (by omega)) (va_cwS 3 hX.ts (lw_S q1501 q1502 q71 q1503) rfl rfl rfl (by decide +kernel) (zroom (by decide) (by decide))) dX1_feasible_6 rfl rfl rfl (by first | exact Nat.le_of_ble_eq_true rfl | simp [va_rf_c, Value.category]) (zhf (by omega) (by omega))) (fun r_6 μ_6 h_6 => ?_)
  obtain ⟨rfl, rfl⟩ := h_6
  refine z_if_ne_b hX dX1_feasible_9 (tgt := 16) rfl (fun h_9 => ?_) (fun h_9 => ?_)
  · have hok : 0 ≤ k ∧ k ≤ 3 := by simpa using h_9
    have fin : ∀ (s1 : Nat → Int) (A1 : Nat → Int → Int), sag knS s s1 → sag [17] A A1 → nS s1 (nAll (A 0)) → ∀ y z, zW X (zR 5 0 0) E (mM E ν m0 ad s1 A1) 0 0 Q 84 [some (.ref m0), some (.int (zI k)), y, z] [] := by
      intro s1 A1 hs hA hn y z
      generalize hxx : nAll (A 0) = x at *
      obtain ⟨lo, hi, nv⟩ := x
      obtain ⟨k1, k2, k3⟩ := hn
      simp only at k1 k2 k3
      refine zW.mask [true, true, false, false] (lv' := [_, _, none, none]) rfl ?_
      have stt : (nv || nBoth (lo, hi, nv)) = true → zW X (zR 5 0 0) E (mM E ν m0 ad s1 A1) 0 0 Q 127 [some (.ref m0), some (.int (zI k)), none, none] [] := by
        intro h
        refine z_ldc2_w hX (z := -1000003) q1670 (by decide) dX1_feasible_127 ?_
        (try rw [← hQ])
        refine z_lreturn hX dX1_feasible_130 (by omega) (by omega) ?_
        refine ⟨s1, A1, hs, hA, ?_, rfl⟩
        rw [if_pos hok, feasR, if_pos h]
      have at131 : (nv || nBoth (lo, hi, nv)) = false → zW X (zR 5 0 0) E (mM E ν m0 ad s1 A1) 0 0 Q 131 [some (.ref m0), some (.int (zI k)), none, none] [] := by
        intro h
        refine z_iload_n hX rfl dX1_feasible_131 ?_
        refine z_iconst hX dX1_feasible_132 ?_
        refine z_icmp_ge hX (by omega) (by omega) dX1_feasible_133 (tgt := 192) rfl (fun h_133 => ?_) (fun h_133 => ?_)
        · -- what = 2, 3
          cases hi with
          | none =>
            have k2' : s1 32 = zb false := k2
            refine z_aload_n hX rfl (by first | rfl | exact va_rf_r _) dX1_feasible_192 ?_
            refine zm_get hX 32 (by decide) q1402 dX1_feasible_193 rfl rfl ?_
            rw [k2']
            refine z_if_eq_b hX dX1_feasible_196 (tgt := 213) rfl (fun h_196 => ?_) (fun h_196 => ?_)
            · refine z_lconst hX (z := 1) (by decide) dX1_feasible_213 ?_
              refine z_lstore_n hX (lv' := [_, _, _, _]) (Nat.le_of_ble_eq_true rfl) (by first | exact zpre_0 | exact zpre_n rfl | exact zpre_1 rfl rfl | exact zpre_1 rfl (va_rf_c _)) rfl rfl dX1_feasible_214 ?_
              refine z_aload_n hX rfl (by first | rfl | exact va_rf_r _) dX1_feasible_215 ?_
              refine zm_get hX 32 (by decide) q1402 dX1_feasible_216 rfl rfl ?_
              rw [k2']
              refine z_if_ne_b hX dX1_feasible_219 (tgt := 228) rfl (fun h_219 => ?_) (fun h_219 => ?_)
              · exact absurd h_219 (by decide)
              · refine z_ldc2_w hX (z := -1000001) q1684 (by decide) dX1_feasible_222 ?_
                refine z_goto hX (tgt := 248) dX1_feasible_225 rfl ?_
                (try rw [← hQ])
                refine z_lreturn hX dX1_feasible_248 (by omega) (by omega) ?_
                refine ⟨s1, A1, hs, hA, ?_, rfl⟩
                rw [if_pos hok, feasR, if_neg (by rw [h]; decide), if_neg (by omega)]
                rfl
            · exact absurd h_196 (by decide)
          | some x =>
            obtain ⟨u, d⟩ := x
            obtain ⟨j1, j2, j3, j4, j5⟩ := k2
            simp only at j1 j2 j3 j4 j5
            obtain ⟨g1, g2, g3, g4⟩ := gcd_pos_r (u := u) j5
            refine z_aload_n hX rfl (by first | rfl | exact va_rf_r _) dX1_feasible_192 ?_
            refine zm_get hX 32 (by decide) q1402 dX1_feasible_193 rfl rfl ?_
            rw [j1]
            refine z_if_eq_b hX dX1_feasible_196 (tgt := 213) rfl (fun h_196 => ?_) (fun h_196 => ?_)
            · exact absurd h_196 (by decide)
            · refine z_aload_n hX rfl (by first | rfl | exact va_rf_r _) dX1_feasible_199 ?_
              refine zm_get hX 35 (by decide) q1405 dX1_feasible_200 rfl rfl ?_
              refine z_aload_n hX rfl (by first | rfl | exact va_rf_r _) dX1_feasible_203 ?_
              refine zm_get hX 36 (by decide) q1406 dX1_feasible_204 rfl rfl ?_
              refine z_calll (z_runS hX (m_common _ _ _ (a := s1 35) (b := s1 36) (by omega) (by omega)) (va_cwS 2 hX.ts (lw_S q1645 q1646 q71 q1647) rfl rfl rfl (by decide +kernel) (zroom (by decide) (by decide))) dX1_feasible_207 rfl rfl rfl (by first | exact Nat.le_of_ble_eq_true rfl | simp [va_rf_c, Value.category]) (zhf (by omega) (by omega))) (fun r_207 μ_207 h_207 => ?_)
              obtain ⟨rfl, rfl⟩ := h_207; rw [j2, j3]
              refine z_goto hX (tgt := 214) dX1_feasible_210 rfl ?_
              refine z_lstore_n hX (lv' := [_, _, _, _]) (Nat.le_of_ble_eq_true rfl) (by first | exact zpre_0 | exact zpre_n rfl | exact zpre_1 rfl rfl | exact zpre_1 rfl (va_rf_c _)) rfl rfl dX1_feasible_214 ?_
              refine z_aload_n hX rfl (by first | rfl | exact va_rf_r _) dX1_feasible_215 ?_
              refine zm_get hX 32 (by decide) q1402 dX1_feasible_216 rfl rfl ?_
              rw [j1]
              refine z_if_ne_b hX dX1_feasible_219 (tgt := 228) rfl (fun h_219 => ?_) (fun h_219 => ?_)
              · refine z_iload_n hX rfl dX1_feasible_228 ?_
                refine z_iconst hX dX1_feasible_229 ?_
                refine z_icmp_ne hX (by omega) (by omega) dX1_feasible_230 (tgt := 242) rfl (fun h_230 => ?_) (fun h_230 => ?_)
                · refine z_aload_n hX rfl (by first | rfl | exact va_rf_r _) dX1_feasible_242 ?_
                  refine zm_get hX 36 (by decide) q1406 dX1_feasible_243 rfl rfl ?_
                  refine z_lload_n hX rfl dX1_feasible_246 ?_
                  rw [j3]
                  refine z_ldivt hX (by omega) (by omega) (by omega) dX1_feasible_247 ?_
                  rw [g4]
                  (try rw [← hQ])
                  refine z_lreturn hX dX1_feasible_248 (by omega) (by omega) ?_
                  refine ⟨s1, A1, hs, hA, ?_, rfl⟩
                  rw [if_pos hok, feasR, if_neg (by rw [h]; decide), if_neg (by omega), oR, if_neg (by simpa using h_230)]
                · refine z_aload_n hX rfl (by first | rfl | exact va_rf_r _) dX1_feasible_233 ?_
                  refine zm_get hX 35 (by decide) q1405 dX1_feasible_234 rfl rfl ?_
                  refine z_lload_n hX rfl dX1_feasible_237 ?_
                  rw [j2]
                  refine z_ldivt hX (by omega) (by omega) (by omega) dX1_feasible_238 ?_
                  rw [g3]
                  refine z_goto hX (tgt := 248) dX1_feasible_239 rfl ?_
                  (try rw [← hQ])
                  refine z_lreturn hX dX1_feasible_248 (by omega) (by omega) ?_
                  refine ⟨s1, A1, hs, hA, ?_, rfl⟩
                  rw [if_pos hok, feasR, if_neg (by rw [h]; decide), if_neg (by omega), oR, if_pos (by simpa using h_230)]
              · exact absurd h_219 (by decide)
        · cases lo with
          | none =>
            have k1' : s1 31 = zb false := k1
            refine z_aload_n hX rfl (by first | rfl | exact va_rf_r _) dX1_feasible_136 ?_
            refine zm_get hX 31 (by decide) q1401 dX1_feasible_137 rfl rfl ?_
            rw [k1']
            refine z_if_eq_b hX dX1_feasible_140 (tgt := 157) rfl (fun h_140 => ?_) (fun h_140 => ?_)
            · refine z_lconst hX (z := 1) (by decide) dX1_feasible_157 ?_
              refine z_lstore_n hX (lv' := [_, _, _, _]) (Nat.le_of_ble_eq_true rfl) (by first | exact zpre_0 | exact zpre_n rfl | exact zpre_1 rfl rfl | exact zpre_1 rfl (va_rf_c _)) rfl rfl dX1_feasible_158 ?_
              refine z_aload_n hX rfl (by first | rfl | exact va_rf_r _) dX1_feasible_159 ?_
              refine zm_get hX 31 (by decide) q1401 dX1_feasible_160 rfl rfl ?_
              rw [k1']
              refine z_if_ne_b hX dX1_feasible_163 (tgt := 172) rfl (fun h_163 => ?_) (fun h_163 => ?_)
              · exact absurd h_163 (by decide)
              · refine z_ldc2_w hX (z := -1000001) q1684 (by decide) dX1_feasible_166 ?_
                refine z_goto hX (tgt := 191) dX1_feasible_169 rfl ?_
                (try rw [← hQ])
                refine z_lreturn hX dX1_feasible_191 (by omega) (by omega) ?_
                refine ⟨s1, A1, hs, hA, ?_, rfl⟩
                rw [if_pos hok, feasR, if_neg (by rw [h]; decide), if_pos (by omega)]
                rfl
            · exact absurd h_140 (by decide)
          | some x =>
            obtain ⟨u, d⟩ := x
            obtain ⟨j1, j2, j3, j4, j5⟩ := k1
            simp only at j1 j2 j3 j4 j5
            obtain ⟨g1, g2, g3, g4⟩ := gcd_pos_r (u := u) j5
            refine z_aload_n hX rfl (by first | rfl | exact va_rf_r _) dX1_feasible_136 ?_
            refine zm_get hX 31 (by decide) q1401 dX1_feasible_137 rfl rfl ?_
            rw [j1]
            refine z_if_eq_b hX dX1_feasible_140 (tgt := 157) rfl (fun h_140 => ?_) (fun h_140 => ?_)
            · exact absurd h_140 (by decide)
            · refine z_aload_n hX rfl (by first | rfl | exact va_rf_r _) dX1_feasible_143 ?_
              refine zm_get hX 33 (by decide) q1403 dX1_feasible_144 rfl rfl ?_
              refine z_aload_n hX rfl (by first | rfl | exact va_rf_r _) dX1_feasible_147 ?_
              refine zm_get hX 34 (by decide) q1404 dX1_feasible_148 rfl rfl ?_
              refine z_calll (z_runS hX (m_common _ _ _ (a := s1 33) (b := s1 34) (by omega) (by omega)) (va_cwS 2 hX.ts (lw_S q1645 q1646 q71 q1647) rfl rfl rfl (by decide +kernel) (zroom (by decide) (by decide))) dX1_feasible_151 rfl rfl rfl (by first | exact Nat.le_of_ble_eq_true rfl | simp [va_rf_c, Value.category]) (zhf (by omega) (by omega))) (fun r_151 μ_151 h_151 => ?_)
              obtain ⟨rfl, rfl⟩ := h_151; rw [j2, j3]
              refine z_goto hX (tgt := 158) dX1_feasible_154 rfl ?_
              refine z_lstore_n hX (lv' := [_, _, _, _]) (Nat.le_of_ble_eq_true rfl) (by first | exact zpre_0 | exact zpre_n rfl | exact zpre_1 rfl rfl | exact zpre_1 rfl (va_rf_c _)) rfl rfl dX1_feasible_158 ?_
              refine z_aload_n hX rfl (by first | rfl | exact va_rf_r _) dX1_feasible_159 ?_
              refine zm_get hX 31 (by decide) q1401 dX1_feasible_160 rfl rfl ?_
              rw [j1]
              refine z_if_ne_b hX dX1_feasible_163 (tgt := 172) rfl (fun h_163 => ?_) (fun h_163 => ?_)
              · refine z_iload_n hX rfl dX1_feasible_172 ?_
                refine z_if_ne hX (by omega) dX1_feasible_173 (tgt := 185) rfl (fun h_173 => ?_) (fun h_173 => ?_)
                · refine z_aload_n hX rfl (by first | rfl | exact va_rf_r _) dX1_feasible_185 ?_
                  refine zm_get hX 34 (by decide) q1404 dX1_feasible_186 rfl rfl ?_
                  refine z_lload_n hX rfl dX1_feasible_189 ?_
                  rw [j3]
                  refine z_ldivt hX (by omega) (by omega) (by omega) dX1_feasible_190 ?_
                  rw [g4]
                  (try rw [← hQ])
                  refine z_lreturn hX dX1_feasible_191 (by omega) (by omega) ?_
                  refine ⟨s1, A1, hs, hA, ?_, rfl⟩
                  rw [if_pos hok, feasR, if_neg (by rw [h]; decide), if_pos (by omega), oR, if_neg (by simpa using h_173)]
                · refine z_aload_n hX rfl (by first | rfl | exact va_rf_r _) dX1_feasible_176 ?_
                  refine zm_get hX 33 (by decide) q1403 dX1_feasible_177 rfl rfl ?_
                  refine z_lload_n hX rfl dX1_feasible_180 ?_
                  rw [j2]
                  refine z_ldivt hX (by omega) (by omega) (by omega) dX1_feasible_181 ?_
                  rw [g3]
                  refine z_goto hX (tgt := 191) dX1_feasible_182 rfl ?_
                  (try rw [← hQ])
                  refine z_lreturn hX dX1_feasible_191 (by omega) (by omega) ?_
                  refine ⟨s1, A1, hs, hA, ?_, rfl⟩
                  rw [if_pos hok, feasR, if_neg (by rw [h]; decide), if_pos (by omega), oR, if_pos (by simpa using h_173)]
              · exact absurd h_163 (by decide)
      refine z_aload_n hX rfl (by first | rfl | exact va_rf_r _) dX1_feasible_84 ?_
      refine zm_get hX 37 (by decide) q1407 dX1_feasible_85 rfl rfl ?_
      rw [k3]
      refine z_if_ne_b hX dX1_feasible_88 (tgt := 127) rfl (fun h_88 => ?_) (fun h_88 => ?_)
      · exact stt (by rw [h_88]; rfl)
      · cases lo with
        | none =>
          have k1' : s1 31 = zb false := k1
          refine z_aload_n hX rfl (by first | rfl | exact va_rf_r _) dX1_feasible_91 ?_
          refine zm_get hX 31 (by decide) q1401 dX1_feasible_92 rfl rfl ?_
          rw [k1']
          refine z_if_eq_b hX dX1_feasible_95 (tgt := 131) rfl (fun h_95 => ?_) (fun h_95 => ?_)
          · exact at131 (by rw [h_88]; rfl)
          · exact absurd h_95 (by decide)
        | some x =>
          obtain ⟨u, d⟩ := x
          obtain ⟨j1, j2, j3, j4, j5⟩ := k1
          simp only at j1 j2 j3 j4 j5
          refine z_aload_n hX rfl (by first | rfl | exact va_rf_r _) dX1_feasible_91 ?_
          refine zm_get hX 31 (by decide) q1401 dX1_feasible_92 rfl rfl ?_
          rw [j1]
          refine z_if_eq_b hX dX1_feasible_95 (tgt := 131) rfl (fun h_95 => ?_) (fun h_95 => ?_)
          · exact absurd h_95 (by decide)
          · cases hi with
            | none =>
              have k2' : s1 32 = zb false := k2
              refine z_aload_n hX rfl (by first | rfl | exact va_rf_r _) dX1_feasible_98 ?_
              refine zm_get hX 32 (by decide) q1402 dX1_feasible_99 rfl rfl ?_
              rw [k2']
              refine z_if_eq_b hX dX1_feasible_102 (tgt := 131) rfl (fun h_102 => ?_) (fun h_102 => ?_)
              · exact at131 (by rw [h_88]; rfl)
              · exact absurd h_102 (by decide)
            | some x2 =>
              obtain ⟨u2, d2⟩ := x2
              obtain ⟨i1, i2, i3, i4, i5⟩ := k2
              simp only at i1 i2 i3 i4 i5
              have hr := gsg_r (u * d2 - u2 * d)
              refine z_aload_n hX rfl (by first | rfl | exact va_rf_r _) dX1_feasible_98 ?_
              refine zm_get hX 32 (by decide) q1402 dX1_feasible_99 rfl rfl ?_
              rw [i1]
              refine z_if_eq_b hX dX1_feasible_102 (tgt := 131) rfl (fun h_102 => ?_) (fun h_102 => ?_)
              · exact absurd h_102 (by decide)
              · refine z_aload_n hX rfl (by first | rfl | exact va_rf_r _) dX1_feasible_105 ?_
                refine zm_get hX 33 (by decide) q1403 dX1_feasible_106 rfl rfl ?_
                refine z_aload_n hX rfl (by first | rfl | exact va_rf_r _) dX1_feasible_109 ?_
                refine zm_get hX 34 (by decide) q1404 dX1_feasible_110 rfl rfl ?_
                refine z_aload_n hX rfl (by first | rfl | exact va_rf_r _) dX1_feasible_113 ?_
                refine zm_get hX 35 (by decide) q1405 dX1_feasible_114 rfl rfl ?_
                refine z_aload_n hX rfl (by first | rfl | exact va_rf_r _) dX1_feasible_117 ?_
                refine zm_get hX 36 (by decide) q1406 dX1_feasible_118 rfl rfl ?_
                refine z_calli (z_runS hX (m_compares _ _ _ (a := s1 33) (b := s1 34) (c := s1 35) (d := s1 36) (by omega) (by omega) (by omega) (by omega)) (va_cwS 4 hX.ts (lw_S q1627 q1628 q71 q1629) rfl rfl rfl (by decide +kernel) (zroom (by decide) (by decide))) dX1_feasible_121 rfl rfl rfl (by first | exact Nat.le_of_ble_eq_true rfl | simp [va_rf_c, Value.category]) (zhf (by omega) (by omega))) (fun r_121 μ_121 h_121 => ?_)
                obtain ⟨rfl, rfl⟩ := h_121; rw [j2, j3, i2, i3]
                refine z_if_le hX (by omega) dX1_feasible_124 (tgt := 131) rfl (fun h_124 => ?_) (fun h_124 => ?_)
                · refine at131 ?_
                  rw [h_88, Bool.false_or, nBoth]
                  exact decide_eq_false (by simp only; omega)
                · refine stt ?_
                  rw [h_88, Bool.false_or, nBoth]
                  exact decide_eq_true (by simp only; omega)
    have outer : ∀ (n : Nat) (i : Int) (s1 : Nat → Int) (A1 : Nat → Int → Int) (x : nT), 0 ≤ i → i ≤ 8 → 8 < i + n → sag knS s s1 → sag [17] A A1 → nS s1 x → ((er i 8).flatMap (fun s => gAll (A 0) s s (lowT s))).foldl (bndA (A 0)) x = nAll (A 0) → ∀ y, zW X (zR 5 0 0) E (mM E ν m0 ad s1 A1) 0 0 Q 33 [some (.ref m0), some (.int (zI k)), some (.int (zI i)), y] [] := by
      intro n
      induction n with
      | zero => intros; exfalso; omega
      | succ n ih =>
        intro i s1 A1 x h0 h1 hn hs hA hb he y
        refine zW.mask [true, true, true, false] (lv' := [_, _, _, none]) rfl ?_
        refine z_iload_n hX rfl dX1_feasible_33 ?_
        refine z_bipush hX (by decide) dX1_feasible_34 ?_
        refine z_icmp_ge hX (by omega) (by omega) dX1_feasible_36 (tgt := 84) rfl (fun h_36 => ?_) (fun h_36 => ?_)
        · obtain rfl : i = 8 := by omega
          rw [er_nil (Int.le_refl _)] at he
          exact fin s1 A1 hs hA (by rw [← he]; exact hb) _ _
        · rw [er_cons (show i < 8 by omega), List.flatMap_cons, List.foldl_append] at he
          have a0 : A1 0 = A 0 := hA 0 (by decide)
          refine z_aload_n hX rfl (by first | rfl | exact va_rf_r _) dX1_feasible_39 ?_
          refine z_iload_n hX rfl dX1_feasible_40 ?_
          refine z_iload_n hX rfl dX1_feasible_41 ?_
          refine z_callv (z_runV hX (m_starts _ _ hD ⟨h0, by omega⟩ ⟨h0, by omega⟩) (cwV 2 hX.ts (lw_V q1603 q1605 qs43 q71 q1606) rfl rfl rfl (by decide +kernel) (zroom (by decide) (by decide))) dX1_feasible_42 mM_0 (ci := 1) rfl rfl rfl rfl (by first | exact Nat.le_of_ble_eq_true rfl | simp [va_rf_c, Value.category]) (zhf (by omega) (by omega))) (fun μ_42 h_42 => ?_)
          obtain ⟨t, rfl, ht⟩ := h_42; rw [gm_low] at ht; generalize hs4 : zg (zg (zg (zg s1 18 0) 20 i) 21 i) 19 t = s4
          have k1 : sag [18, 19, 20, 21] s1 s4 := by rw [← hs4]; exact (((sag.up (by simp)).up2 (by simp)).up2 (by simp)).up2 (by simp)
          have k18 : s4 18 = 0 := by rw [← hs4, zg_n (by decide), zg_n (by decide), zg_n (by decide), zg_s]
          have k20 : s4 20 = i := by rw [← hs4, zg_n (by decide), zg_n (by decide), zg_s]
          have k21 : s4 21 = i := by rw [← hs4, zg_n (by decide), zg_s]
          have k19 : gM (s4 19) (lowT i) := by rw [← hs4, zg_s]; exact ht
          refine z_aload_n hX rfl (by first | rfl | exact va_rf_r _) dX1_feasible_45 ?_
          refine z_iconst hX dX1_feasible_46 ?_
          refine z_callb (z_runV hX (m_go1 _ _ hD (by rw [a0]; exact hg) ⟨h0, by omega⟩ ⟨h0, by omega⟩ k20 k21 (lowT_u ⟨h0, by omega⟩) k18 k19) (cwV 1 hX.ts (lw_V q1607 q1609 qs44 q71 q1610) rfl rfl rfl (by decide +kernel) (zroom (by decide) (by decide))) dX1_feasible_47 mM_0 (ci := 1) rfl rfl rfl rfl (by first | exact Nat.le_of_ble_eq_true rfl | simp [va_rf_c, Value.category]) (zhf (by omega) (by omega))) (fun r_47 μ_47 h_47 => ?_)
          obtain ⟨s3, A3, h3, h4, h5, rfl⟩ := goQ_nx h_47
          refine z_istore_n hX (lv' := [_, _, _, _]) (Nat.le_of_ble_eq_true rfl) (by first | exact zpre_0 | exact zpre_n rfl | exact zpre_1 rfl rfl | exact zpre_1 rfl (va_rf_c _)) rfl dX1_feasible_50 ?_
          rw [a0] at h5
          refine inner i _ _ s3 A3 x h0 (by omega) ((hs.tr k1 (ks := knS) (by intro k hk; simp only [List.mem_cons, List.not_mem_nil, or_false, not_or] at hk ⊢; omega)).tr h3 (by intro k hk; simp only [List.mem_cons, List.not_mem_nil, or_false, not_or] at hk ⊢; omega)) (hA.tr h4 (by intro k hk; simp only [List.mem_cons, List.not_mem_nil, or_false, not_or] at hk ⊢; omega)) (by rw [h3 20 (by decide)]; exact k20) (by rw [h3 21 (by decide)]; exact k21) ?_ h5 (fun s2 A2 g1 g2 g3 y => ?_)
          · exact nS_ag hb (fun k hk => (h3 k (by intro q; simp at hk q; omega)).trans (k1 k (by intro q; simp at hk q; omega)))
          · refine z_iinc hX (lv' := [_, _, _, _]) rfl (Nat.le_of_ble_eq_true rfl) (by first | exact zpre_0 | exact zpre_n rfl | exact zpre_1 rfl rfl | exact zpre_1 rfl (va_rf_c _)) rfl dX1_feasible_78 ?_
            refine z_goto hX (tgt := 33) dX1_feasible_81 rfl ?_
            exact ih (i + 1) s2 A2 _ (by omega) (by omega) (by omega) g1 g2 g3 he _
    refine z_aload_n hX rfl (by first | rfl | exact va_rf_r _) dX1_feasible_16 ?_
    refine z_iconst hX dX1_feasible_17 ?_
    refine zm_putz hX hD (b := false) 31 (by decide) q1401 dX1_feasible_18 rfl mset_31 ?_
    refine z_aload_n hX rfl (by first | rfl | exact va_rf_r _) dX1_feasible_21 ?_
    refine z_iconst hX dX1_feasible_22 ?_
    refine zm_putz hX hD (b := false) 32 (by decide) q1402 dX1_feasible_23 rfl mset_32 ?_
    refine z_aload_n hX rfl (by first | rfl | exact va_rf_r _) dX1_feasible_26 ?_
    refine z_iconst hX dX1_feasible_27 ?_
    refine zm_putz hX hD (b := false) 37 (by decide) q1407 dX1_feasible_28 rfl mset_37 ?_
    refine z_iconst hX dX1_feasible_31 ?_
    refine z_istore_n hX (lv' := [_, _, _, _]) (Nat.le_of_ble_eq_true rfl) (by first | exact zpre_0 | exact zpre_n rfl | exact zpre_1 rfl rfl | exact zpre_1 rfl (va_rf_c _)) rfl dX1_feasible_32 ?_
    refine outer 9 0 _ A (none, none, false) (by omega) (by omega) (by omega) (((sag.up (ks := knS) (by simp)).up2 (by simp)).up2 (by simp)) sag.rf ⟨?_, ?_, ?_⟩ rfl none
    · show _ = _; rw [zg_n (by decide), zg_n (by decide), zg_s]
    · show _ = _; rw [zg_n (by decide), zg_s]
    · rw [zg_s]
  · refine z_ldc2_w hX (z := -1000002) q1669 (by decide) dX1_feasible_12 ?_
    (try rw [← hQ])
    refine z_lreturn hX dX1_feasible_15 (by omega) (by omega) ?_
    exact ⟨s, A, sag.rf, sag.rf, by rw [if_neg (by simpa using h_9)]; rfl, rfl⟩
/-- conversions from one node to another one -/
def gP (a : Int → Int) (f z : Int) : List (List Int) := gAll a f z (fun v => decide (v = f))
def cvBest (a : Int → Int) (f z : Int) : bT := if f = z then some (1, 1, []) else (gP a f z).foldl (wst 2 a) none
theorem m_convert (l : Launch) (E : zE) {ν : zM} {m0 : Nat} {ad : Nat → Nat} {s : Nat → Int} {A : Nat → Int → Int} (hD : mD m0 ad) (hg : gV (A 0)) {φ : bT} (hf : fS s A φ) {f z : Int} (hfr : iR f) (hzr : iR z) : Met l yX1_convert (ws_ yX1_convert cX1_convert 4 (some .int)) (zR 5 0 0) (va_Pc [.ref m0, .int (zI f), .int (zI z)] (zPre E (mM E ν m0 ad s A))) (zQi E (fun r μ' => if (0 ≤ f ∧ f ≤ 7) ∧ 0 ≤ z ∧ z ≤ 7 then fnQ E ν m0 ad s A φ (cvBest (A 0) f z) r μ' else (gBAD = r ∧ ∃ s' A', sag kfS s s' ∧ sag kfA A A' ∧ fS s' A' φ ∧ mM E ν m0 ad s' A' = μ'))) 0 0 (zA E) := by
  refine zmet (cc := cX1_convert) [_, _, _, _] (by decide) (Nat.le_of_ble_eq_true rfl) rfl rfl ?_
  intro X hl hX hinit; subst hl
  have hX : zOK X _ cX1_convert RX1 (some .int) 4 := hX
  generalize hQ : MQ _ _ _ _ _ _ _ = Q
  have inner : (0 ≤ f ∧ f ≤ 7) ∧ 0 ≤ z ∧ z ≤ 7 → ¬ f = z → ∀ (L : List (List Int)) (r : Bool) (s1 : Nat → Int) (A1 : Nat → Int → Int) (b : bT), sag ksS s s1 → sag ksA A A1 → s1 20 = f → s1 21 = z → bS s1 A1 b → nxW (A 0) f z (fun v => decide (v = f)) s1 A1 r L → L.foldl (wst 2 (A 0)) b = cvBest (A 0) f z → zW X (zR 5 0 0) E (mM E ν m0 ad s1 A1) 0 0 Q 60 [some (.ref m0), some (.int (zI f)), some (.int (zI z)), some (.int (zI (zb r)))] [] := by
    intro hok hfz L
    have hu : gu (fun v => decide (v = f)) ≤ 7 := gu_taken (w := f) (by omega) (by omega) (by simp)
    induction L with
    | nil =>
      intro r s1 A1 b hs hA h20 h21 hb hn he
      rcases hn with ⟨rfl, -⟩ | ⟨-, p, L', h, -⟩
      · refine z_iload_n hX rfl dX1_convert_60 ?_
        refine z_if_eq_b hX dX1_convert_61 (tgt := 89) rfl (fun h_61 => ?_) (fun h_61 => ?_)
        · refine z_aload_n hX rfl (by first | rfl | exact va_rf_r _) dX1_convert_89 ?_
          refine z_calli (z_runV hX (m_finds _ _ hD hb) (cwV 0 hX.ts (lw_V q1641 q1643 qs51 q71 q1644) rfl rfl rfl (by decide +kernel) (zroom (by decide) (by decide))) dX1_convert_90 mM_0 (ci := 1) rfl rfl rfl rfl (by first | exact Nat.le_of_ble_eq_true rfl | simp [va_rf_c, Value.category]) (zhf (by omega) (by omega))) (fun r_90 μ_90 h_90 => ?_)
          (try rw [← hQ])
          refine z_ireturn hX dX1_convert_93 (by omega) (by omega) ?_
          rw [if_pos hok]
          rw [← he]
          exact fnQ_of hf hs hA hb h_90
        · exact absurd h_61 (by decide)
      · cases h
    | cons p L ih =>
      intro r s1 A1 b hs hA h20 h21 hb hn he
      rcases hn with ⟨-, h⟩ | ⟨rfl, p', L', h, hat⟩
      · cases h
      · obtain ⟨rfl, rfl⟩ : p = p' ∧ L = L' := by cases h; exact ⟨rfl, rfl⟩
        have a0 : A1 0 = A 0 := hA 0 (by decide)
        have hg1 : gV (A1 0) := by rw [a0]; exact hg
        obtain ⟨hx, hx18, hl, h1, hr, hm⟩ := hat
        have hm' : ∀ e ∈ p, 0 ≤ e ∧ e < A1 0 112 := by rw [a0]; exact hm
        have hm16 : ∀ e ∈ p, 0 ≤ e ∧ e < 16 := fun e he => by have := hm e he; have := hg.1; omega
        have b3 := eprod_r (w := 5) hg (by omega) hl hm
        have b4 := eprod_r (w := 6) hg (by omega) hl hm
        refine z_iload_n hX rfl dX1_convert_60 ?_
        refine z_if_eq_b hX dX1_convert_61 (tgt := 89) rfl (fun h_61 => ?_) (fun h_61 => ?_)
        · exact absurd h_61 (by decide)
        · refine z_aload_n hX rfl (by first | rfl | exact va_rf_r _) dX1_convert_64 ?_
          refine z_aload_n hX rfl (by first | rfl | exact va_rf_r _) dX1_convert_65 ?_
          refine z_iconst hX dX1_convert_66 ?_
          refine z_calll (z_runV hX (m_product _ _ hD hg1 hx18 hl hr hm' (by omega)) (cwV 1 hX.ts (lw_V q1619 q1621 qs47 q71 q1622) rfl rfl rfl (by decide +kernel) (zroom (by decide) (by decide))) dX1_convert_67 mM_0 (ci := 1) rfl rfl rfl rfl (by first | exact Nat.le_of_ble_eq_true rfl | simp [va_rf_c, Value.category]) (zhf (by omega) (by omega))) (fun r_67 μ_67 h_67 => ?_)
          obtain ⟨rfl, rfl⟩ := h_67; rw [a0]
          refine z_aload_n hX rfl (by first | rfl | exact va_rf_r _) dX1_convert_70 ?_
          refine z_bipush hX (by decide) dX1_convert_71 ?_
          refine z_calll (z_runV hX (m_product _ _ hD hg1 hx18 hl hr hm' (by omega)) (cwV 1 hX.ts (lw_V q1619 q1621 qs47 q71 q1622) rfl rfl rfl (by decide +kernel) (zroom (by decide) (by decide))) dX1_convert_73 mM_0 (ci := 1) rfl rfl rfl rfl (by first | exact Nat.le_of_ble_eq_true rfl | simp [va_rf_c, Value.category]) (zhf (by omega) (by omega))) (fun r_73 μ_73 h_73 => ?_)
          obtain ⟨rfl, rfl⟩ := h_73; rw [a0]
          refine z_iconst hX dX1_convert_76 ?_
          refine z_callv (z_runV hX (m_weighs _ _ hD hx18 hl hr hm16 hb (by omega) (by omega) (by omega)) (cwV 3 hX.ts (lw_V q1623 q1625 qs48 q71 q1626) rfl rfl rfl (by decide +kernel) (zroom (by decide) (by decide))) dX1_convert_77 mM_0 (ci := 1) rfl rfl rfl rfl (by first | exact Nat.le_of_ble_eq_true rfl | simp [va_rf_c, Value.category]) (zhf (by omega) (by omega))) (fun μ_77 h_77 => ?_)
          obtain ⟨s2, A2, hs2, hA2, hb2, rfl⟩ := h_77
          have a2 : A2 0 = A 0 := (hA2 0 (by decide)).trans a0
          have hat2 : atW (A2 0) f z (fun v => decide (v = f)) (s2 18) (s2 19) (A2 17) p L := by
            rw [a2, hs2 18 (by decide), hs2 19 (by decide), hA2 17 (by decide)]
            exact ⟨hx, hx18, hl, h1, hr, hm⟩
          refine z_aload_n hX rfl (by first | rfl | exact va_rf_r _) dX1_convert_80 ?_
          refine z_iconst hX dX1_convert_81 ?_
          refine z_callb (z_runV hX (m_go2 _ _ hD (by rw [a2]; exact hg) (by omega) (by omega) (by rw [hs2 20 (by decide)]; exact h20) (by rw [hs2 21 (by decide)]; exact h21) hu hat2) (cwV 1 hX.ts (lw_V q1607 q1609 qs44 q71 q1610) rfl rfl rfl (by decide +kernel) (zroom (by decide) (by decide))) dX1_convert_82 mM_0 (ci := 1) rfl rfl rfl rfl (by first | exact Nat.le_of_ble_eq_true rfl | simp [va_rf_c, Value.category]) (zhf (by omega) (by omega))) (fun r_82 μ_82 h_82 => ?_)
          obtain ⟨s3, A3, h3, h4, h5, rfl⟩ := goQ_nx h_82
          refine z_istore_n hX (lv' := [_, _, _, _]) (Nat.le_of_ble_eq_true rfl) (by first | exact zpre_0 | exact zpre_n rfl | exact zpre_1 rfl rfl | exact zpre_1 rfl (va_rf_c _)) rfl dX1_convert_85 ?_
          refine z_goto hX (tgt := 60) dX1_convert_86 rfl ?_
          rw [a2] at h5
          refine ih _ s3 A3 (wst 2 (A 0) b p) ((hs.tr hs2 (ks := ksS) (by intro k hk; simp only [List.mem_cons, List.not_mem_nil, or_false, not_or] at hk ⊢; omega)).tr h3 (by intro k hk; simp only [List.mem_cons, List.not_mem_nil, or_false, not_or] at hk ⊢; omega)) ((hA.tr hA2 (ks := ksA) (by intro k hk; simp only [List.mem_cons, List.not_mem_nil, or_false, not_or] at hk ⊢; omega)).tr h4 (by intro k hk; simp only [List.mem_cons, List.not_mem_nil, or_false, not_or] at hk ⊢; omega)) ?_ ?_ ?_ h5 he
          · rw [h3 20 (by decide), hs2 20 (by decide)]; exact h20
          · rw [h3 21 (by decide), hs2 21 (by decide)]; exact h21
          · refine bS_ag (b := wst 2 (A 0) b p) ?_ (h3 _ (by decide)) (h3 _ (by decide)) (h3 _ (by decide)) (h4 _ (by decide))
            rw [wst, vG, vUp, vDn, if_pos rfl, if_pos rfl, if_pos rfl]
            exact hb2
  have bad : ¬ ((0 ≤ f ∧ f ≤ 7) ∧ 0 ≤ z ∧ z ≤ 7) → zW X (zR 5 0 0) E (mM E ν m0 ad s A) 0 0 Q 14 [some (.ref m0), some (.int (zI f)), some (.int (zI z)), none] [] := by
    intro h
    refine z_ldc hX (z := -1000002) q1511 (by decide) dX1_convert_14 ?_
    (try rw [← hQ])
    refine z_ireturn hX dX1_convert_16 (by omega) (by omega) ?_
    rw [if_neg h]
    exact ⟨rfl, s, A, sag.rf, sag.rf, hf, rfl⟩
  refine z_iload_n hX rfl dX1_convert_0 ?_
  refine z_callb (z_runS hX (m_isNode _ _ _ hfr) (va_cwS 1 hX.ts (lw_S q1497 q1498 q71 q1499) rfl rfl rfl (by decide +kernel) (zroom (by decide) (by decide))) dX1_convert_1 rfl rfl rfl (by first | exact Nat.le_of_ble_eq_true rfl | simp [va_rf_c, Value.category]) (zhf (by omega) (by omega))) (fun r_1 μ_1 h_1 => ?_)
  obtain ⟨rfl, rfl⟩ := h_1
  refine z_if_eq_b hX dX1_convert_4 (tgt := 14) rfl (fun h_4 => ?_) (fun h_4 => ?_)
  · exact bad (by simp at h_4; omega)
  · refine z_iload_n hX rfl dX1_convert_7 ?_
    refine z_callb (z_runS hX (m_isNode _ _ _ hzr) (va_cwS 1 hX.ts (lw_S q1497 q1498 q71 q1499) rfl rfl rfl (by decide +kernel) (zroom (by decide) (by decide))) dX1_convert_8 rfl rfl rfl (by first | exact Nat.le_of_ble_eq_true rfl | simp [va_rf_c, Value.category]) (zhf (by omega) (by omega))) (fun r_8 μ_8 h_8 => ?_)
    obtain ⟨rfl, rfl⟩ := h_8
    refine z_if_ne_b hX dX1_convert_11 (tgt := 17) rfl (fun h_11 => ?_) (fun h_11 => ?_)
    · have hok : (0 ≤ f ∧ f ≤ 7) ∧ 0 ≤ z ∧ z ≤ 7 := by simp at h_4 h_11; omega
      refine z_aload_n hX rfl (by first | rfl | exact va_rf_r _) dX1_convert_17 ?_
      refine z_ldc hX (z := -1000001) q1369 (by decide) dX1_convert_18 ?_
      refine zm_puti hX hD 23 (by decide) q1393 dX1_convert_20 rfl mset_23 ?_
      refine z_iload_n hX rfl dX1_convert_23 ?_
      refine z_iload_n hX rfl dX1_convert_24 ?_
      refine z_icmp_ne hX (by omega) (by omega) dX1_convert_25 (tgt := 48) rfl (fun h_25 => ?_) (fun h_25 => ?_)
      · refine z_aload_n hX rfl (by first | rfl | exact va_rf_r _) dX1_convert_48 ?_
        refine z_iload_n hX rfl dX1_convert_49 ?_
        refine z_iload_n hX rfl dX1_convert_50 ?_
        refine z_callv (z_runV hX (m_starts _ _ hD (by omega) (by omega)) (cwV 2 hX.ts (lw_V q1603 q1605 qs43 q71 q1606) rfl rfl rfl (by decide +kernel) (zroom (by decide) (by decide))) dX1_convert_51 mM_0 (ci := 1) rfl rfl rfl rfl (by first | exact Nat.le_of_ble_eq_true rfl | simp [va_rf_c, Value.category]) (zhf (by omega) (by omega))) (fun μ_51 h_51 => ?_)
        obtain ⟨t, rfl, ht⟩ := h_51; generalize hs4 : zg (zg (zg (zg (zg s 23 (-1000001)) 18 0) 20 f) 21 z) 19 t = s4
        have k1 : sag ksS s s4 := by rw [← hs4]; exact ((((sag.up (by simp)).up2 (by simp)).up2 (by simp)).up2 (by simp)).up2 (by simp)
        have k18 : s4 18 = 0 := by rw [← hs4, zg_n (by decide), zg_n (by decide), zg_n (by decide), zg_s]
        have k20 : s4 20 = f := by rw [← hs4, zg_n (by decide), zg_n (by decide), zg_s]
        have k21 : s4 21 = z := by rw [← hs4, zg_n (by decide), zg_s]
        have k23 : s4 23 = -1000001 := by rw [← hs4, zg_n (by decide), zg_n (by decide), zg_n (by decide), zg_n (by decide), zg_s]
        have k19 : gM (s4 19) (fun v => decide (v = f)) := by rw [← hs4, zg_s]; simp only [if_neg h_25] at ht; exact ht
        refine z_aload_n hX rfl (by first | rfl | exact va_rf_r _) dX1_convert_54 ?_
        refine z_iconst hX dX1_convert_55 ?_
        refine z_callb (z_runV hX (m_go1 _ _ hD hg (by omega) (by omega) k20 k21 (gu_taken (w := f) (by omega) (by omega) (by simp)) k18 k19) (cwV 1 hX.ts (lw_V q1607 q1609 qs44 q71 q1610) rfl rfl rfl (by decide +kernel) (zroom (by decide) (by decide))) dX1_convert_56 mM_0 (ci := 1) rfl rfl rfl rfl (by first | exact Nat.le_of_ble_eq_true rfl | simp [va_rf_c, Value.category]) (zhf (by omega) (by omega))) (fun r_56 μ_56 h_56 => ?_)
        obtain ⟨s3, A3, h3, h4, h5, rfl⟩ := goQ_nx h_56
        refine z_istore_n hX (lv' := [_, _, _, _]) (Nat.le_of_ble_eq_true rfl) (by first | exact zpre_0 | exact zpre_n rfl | exact zpre_1 rfl rfl | exact zpre_1 rfl (va_rf_c _)) rfl dX1_convert_59 ?_
        refine inner hok h_25 _ _ s3 A3 none (k1.tr h3 (by intro k hk; simp only [List.mem_cons, List.not_mem_nil, or_false, not_or] at hk ⊢; omega)) (sag.mono h4 (by intro k hk; simp only [List.mem_cons, List.not_mem_nil, or_false, not_or] at hk ⊢; omega)) (by rw [h3 20 (by decide)]; exact k20) (by rw [h3 21 (by decide)]; exact k21) (by show _ = _; rw [h3 23 (by decide)]; exact k23) h5 ?_
        rw [cvBest, if_neg h_25]
        rfl
      · refine z_aload_n hX rfl (by first | rfl | exact va_rf_r _) dX1_convert_28 ?_
        refine z_iconst hX dX1_convert_29 ?_
        refine zm_puti hX hD 23 (by decide) q1393 dX1_convert_30 rfl mset_23 ?_
        refine z_aload_n hX rfl (by first | rfl | exact va_rf_r _) dX1_convert_33 ?_
        refine z_lconst hX (z := 1) (by decide) dX1_convert_34 ?_
        refine zm_putl hX hD 24 (by decide) q1394 dX1_convert_35 rfl mset_24 ?_
        refine z_aload_n hX rfl (by first | rfl | exact va_rf_r _) dX1_convert_38 ?_
        refine z_lconst hX (z := 1) (by decide) dX1_convert_39 ?_
        refine zm_putl hX hD 25 (by decide) q1395 dX1_convert_40 rfl mset_25 ?_
        refine z_aload_n hX rfl (by first | rfl | exact va_rf_r _) dX1_convert_43 ?_
        refine z_calli (z_runV hX (m_finds _ _ hD (b := some (1, 1, [])) (by refine ⟨?_, by simp, ?_, ?_, fun i e h => by simp at h, by simp, by decide, by decide⟩ <;> simp [zg])) (cwV 0 hX.ts (lw_V q1641 q1643 qs51 q71 q1644) rfl rfl rfl (by decide +kernel) (zroom (by decide) (by decide))) dX1_convert_44 mM_0 (ci := 1) rfl rfl rfl rfl (by first | exact Nat.le_of_ble_eq_true rfl | simp [va_rf_c, Value.category]) (zhf (by omega) (by omega))) (fun r_44 μ_44 h_44 => ?_)
        (try rw [← hQ])
        refine z_ireturn hX dX1_convert_47 (by omega) (by omega) ?_
        rw [if_pos hok, cvBest, if_pos h_25]
        refine fnQ_of hf ?_ sag.rf ?_ h_44
        · exact (((sag.up (by simp)).up2 (by simp)).up2 (by simp)).up2 (by simp)
        · refine ⟨?_, by simp, ?_, ?_, fun i e h => by simp at h, by simp, by decide, by decide⟩ <;> simp [zg]
    · exact bad (by simp at h_11; omega)
