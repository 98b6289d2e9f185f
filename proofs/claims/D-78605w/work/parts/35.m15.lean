/-! MODEL 15: the next line, the row of pieces -/
set_option maxRecDepth 100000
def nxB (x y u d : Int) : Prop := frB x y ∧ (-1386 ≤ u ∧ u ≤ 1386) ∧ 1 ≤ d ∧ d ≤ 126
def nxR (s : Nat → Int) (p4 p6 : Int) : Option ((Int × Int) × Int × Int) → Prop
  | none => True
  | some ((x, y), u, d) => (p4 = x ∧ p6 = y ∧ s 29 = u ∧ s 30 = d) ∧ nxB x y u d
theorem nxR_ag {s t : Nat → Int} {p4 p6 : Int} : ∀ {b}, nxR s p4 p6 b → t 29 = s 29 → t 30 = s 30 → nxR t p4 p6 b
  | none, _, _, _ => trivial
  | some ((_, _), _, _), h, h1, h2 => ⟨⟨h.1.1, h.1.2.1, h1.trans h.1.2.2.1, h2.trans h.1.2.2.2⟩, h.2⟩
/-- what the next line leaves -/
def nxP (s s' : Nat → Int) : Option ((Int × Int) × Int × Int) → Prop
  | none => s' 27 = s 27 ∧ s' 28 = s 28
  | some ((x, y), u, d) => (s' 27 = x ∧ s' 28 = y ∧ s' 29 = u ∧ s' 30 = d) ∧ nxB x y u d
theorem nxS_no {a : Int → Int} {cx cy : Int} {b : Option ((Int × Int) × Int × Int)} {w : List Int} (h : ¬ esum a 3 w < cy) : nxS a cx cy b w = b := by
  unfold nxS
  rw [if_neg h]
theorem nxS_none {a : Int → Int} {cx cy : Int} {w : List Int} (h : esum a 3 w < cy) : nxS a cx cy none w = some ((esum a 2 w, esum a 3 w), esum a 2 w - cx, cy - esum a 3 w) := by
  unfold nxS
  rw [if_pos h]
theorem nxS_some {a : Int → Int} {cx cy px py u d : Int} {w : List Int} (h : esum a 3 w < cy) : nxS a cx cy (some ((px, py), u, d)) w = if gsg ((esum a 2 w - cx) * d - u * (cy - esum a 3 w)) < 0 ∨ (gsg ((esum a 2 w - cx) * d - u * (cy - esum a 3 w)) = 0 ∧ esum a 3 w < py) then some ((esum a 2 w, esum a 3 w), esum a 2 w - cx, cy - esum a 3 w) else some ((px, py), u, d) := by
  unfold nxS
  rw [if_pos h]
theorem m_nextLine (l : Launch) (E : zE) {ν : zM} {m0 : Nat} {ad : Nat → Nat} {s : Nat → Int} {A : Nat → Int → Int} (hD : mD m0 ad) (hg : gV (A 0)) {f z : Int} (hf : 0 ≤ f ∧ f ≤ 7) (hz : 0 ≤ z ∧ z ≤ 7) (hB : frB (s 27) (s 28)) : Met l yX1_nextLine (ws_ yX1_nextLine cX1_nextLine 14 (some .boolean)) (zR 5 0 0) (va_Pc [.ref m0, .int (zI f), .int (zI z)] (zPre E (mM E ν m0 ad s A))) (zQb E (fun r μ' => ∃ s' A', sag kxS s s' ∧ sag [17] A A' ∧ (nxF (A 0) f z (s 27) (s 28)).isSome = r ∧ nxP s s' (nxF (A 0) f z (s 27) (s 28)) ∧ mM E ν m0 ad s' A' = μ')) 0 0 (zA E) := by
  obtain ⟨hB1, hB2⟩ := hB
  refine zmet (cc := cX1_nextLine) [_, _, _, _, _, _, _, _, _, _, _, _, _, _] (by decide) (Nat.le_of_ble_eq_true rfl) rfl rfl ?_
  intro X hl hX hinit; subst hl
  have hX : zOK X _ cX1_nextLine RX1 (some .boolean) 14 := hX
  generalize hQ : MQ _ _ _ _ _ _ _ = Q
  have inner : ¬ f = z → ∀ (L : List (List Int)) (r : Bool) (s1 : Nat → Int) (A1 : Nat → Int → Int) (b : Option ((Int × Int) × Int × Int)) (p4 p6 : Int), sag kxS s s1 → sag [17] A A1 → s1 20 = f → s1 21 = z → s1 27 = s 27 → s1 28 = s 28 → nxR s1 p4 p6 b → nxW (A 0) f z (fun v => decide (v = f)) s1 A1 r L → (∀ w ∈ L, w ∈ gP (A 0) f z) → L.foldl (nxS (A 0) (s 27) (s 28)) b = nxF (A 0) f z (s 27) (s 28) → ∀ y1 y2 y3 y4 y5, zW X (zR 5 0 0) E (mM E ν m0 ad s1 A1) 0 0 Q 34 [some (.ref m0), some (.int (zI f)), some (.int (zI z)), some (.int (zI (zb b.isSome))), some (.long (zJ p4)), none, some (.long (zJ p6)), none, some (.int (zI (zb r))), y1, y2, y3, y4, y5] [] := by
    intro hfz L
    have hu : gu (fun v => decide (v = f)) ≤ 7 := gu_taken (w := f) (by omega) (by omega) (by simp)
    induction L with
    | nil =>
      intro r s1 A1 b p4 p6 hs hA h20 h21 h27 h28 hb hn hL he y1 y2 y3 y4 y5
      refine zW.mask [true, true, true, true, true, true, true, true, true, false, false, false, false, false] (lv' := [_, _, _, _, _, _, _, _, _, none, none, none, none, none]) rfl ?_
      rcases hn with ⟨rfl, -⟩ | ⟨-, p', L', h, -⟩
      · rw [List.foldl_nil] at he
        refine z_iload hX rfl dX1_nextLine_34 ?_
        refine z_if_eq_b hX dX1_nextLine_36 (tgt := 158) rfl (fun h_36 => ?_) (fun h_36 => ?_)
        · refine z_iload_n hX rfl dX1_nextLine_158 ?_
          refine z_if_eq_b hX dX1_nextLine_159 (tgt := 174) rfl (fun h_159 => ?_) (fun h_159 => ?_)
          · refine z_iload_n hX rfl dX1_nextLine_174 ?_
            (try rw [← hQ])
            first | refine z_breturn hX true dX1_nextLine_175 (by omega) (by omega) ?_ | refine z_breturn hX false dX1_nextLine_175 (by omega) (by omega) ?_ | refine z_breturn hX _ dX1_nextLine_175 (by omega) (by omega) ?_
            refine ⟨s1, A1, hs, hA, by rw [← he], ?_, rfl⟩
            rw [← he]
            cases b with
            | none => exact ⟨h27, h28⟩
            | some b => cases h_159
          · cases b with
            | none => cases h_159
            | some b =>
              obtain ⟨⟨x, y⟩, u, d⟩ := b
              obtain ⟨⟨rfl, rfl, k3, k4⟩, hbb⟩ := hb
              have hbb' := hbb
              obtain ⟨⟨b1, b2⟩, b3, b4⟩ := hbb'
              refine z_aload_n hX rfl (by first | rfl | exact va_rf_r _) dX1_nextLine_162 ?_
              refine z_lload hX rfl dX1_nextLine_163 ?_
              refine zm_putl hX hD 27 (by decide) q1397 dX1_nextLine_165 rfl mset_27 ?_
              refine z_aload_n hX rfl (by first | rfl | exact va_rf_r _) dX1_nextLine_168 ?_
              refine z_lload hX rfl dX1_nextLine_169 ?_
              refine zm_putl hX hD 28 (by decide) q1398 dX1_nextLine_171 rfl mset_28 ?_
              refine z_iload_n hX rfl dX1_nextLine_174 ?_
              (try rw [← hQ])
              first | refine z_breturn hX true dX1_nextLine_175 (by omega) (by omega) ?_ | refine z_breturn hX false dX1_nextLine_175 (by omega) (by omega) ?_ | refine z_breturn hX _ dX1_nextLine_175 (by omega) (by omega) ?_
              refine ⟨_, A1, (hs.up2 (k := 27) (by simp)).up2 (k := 28) (by simp), hA, by rw [← he]; rfl, ?_, rfl⟩
              rw [← he]
              exact ⟨⟨by rw [zg_n (by decide), zg_s], by rw [zg_s], by rw [zg_n (by decide), zg_n (by decide)]; exact k3, by rw [zg_n (by decide), zg_n (by decide)]; exact k4⟩, hbb⟩
        · exact absurd h_36 (by decide)
      · cases h
    | cons w L ih =>
      intro r s1 A1 b p4 p6 hs hA h20 h21 h27 h28 hb hn hL he y1 y2 y3 y4 y5
      rcases hn with ⟨-, h⟩ | ⟨rfl, p', L', h, hat⟩
      · cases h
      · obtain ⟨rfl, rfl⟩ : w = p' ∧ L = L' := by cases h; exact ⟨rfl, rfl⟩
        have a0 : A1 0 = A 0 := hA 0 (by decide)
        have hg1 : gV (A1 0) := by rw [a0]; exact hg
        obtain ⟨hl7, hm⟩ := gP_mem hg hf hz hfz (hL w List.mem_cons_self)
        have b1 := esum_7 hg hl7 hm
        have hat2 : atW (A1 0) f z (fun v => decide (v = f)) (s1 18) (s1 19) (A1 17) w L := by
          rw [a0]
          exact hat
        obtain ⟨hx, hx18, hl, h1, hr, -⟩ := hat
        have hm' : ∀ e ∈ w, 0 ≤ e ∧ e < A1 0 112 := by rw [a0]; exact hm
        have next : ∀ (s2 : Nat → Int) (b2 : Option ((Int × Int) × Int × Int)) (q4 q6 : Int) (x1 x2 x3 x4 x5 : Option Value), sag [29, 30] s1 s2 → nxR s2 q4 q6 b2 → L.foldl (nxS (A 0) (s 27) (s 28)) b2 = nxF (A 0) f z (s 27) (s 28) → zW X (zR 5 0 0) E (mM E ν m0 ad s2 A1) 0 0 Q 148 [some (.ref m0), some (.int (zI f)), some (.int (zI z)), some (.int (zI (zb b2.isSome))), some (.long (zJ q4)), none, some (.long (zJ q6)), none, some (.int (zI (zb true))), x1, x2, x3, x4, x5] [] := by
          intro s2 b2 q4 q6 x1 x2 x3 x4 x5 g1 g2 g4
          have hat3 : atW (A1 0) f z (fun v => decide (v = f)) (s2 18) (s2 19) (A1 17) w L := by
            rw [g1 18 (by decide), g1 19 (by decide)]
            exact hat2
          refine zW.mask [true, true, true, true, true, true, true, true, true, false, false, false, false, false] (lv' := [_, _, _, _, _, _, _, _, _, none, none, none, none, none]) rfl ?_
          refine z_aload_n hX rfl (by first | rfl | exact va_rf_r _) dX1_nextLine_148 ?_
          refine z_iconst hX dX1_nextLine_149 ?_
          refine z_callb (z_runV hX (m_go2 _ _ hD hg1 (by omega) (by omega) (by rw [g1 20 (by decide)]; exact h20) (by rw [g1 21 (by decide)]; exact h21) hu hat3) (cwV 1 hX.ts (lw_V q1607 q1609 qs44 q71 q1610) rfl rfl rfl (by decide +kernel) (zroom (by decide) (by decide))) dX1_nextLine_150 mM_0 (ci := 1) rfl rfl rfl rfl (by first | exact Nat.le_of_ble_eq_true rfl | simp [va_rf_c, Value.category]) (zhf (by omega) (by omega))) (fun r_150 μ_150 h_150 => ?_)
          obtain ⟨s3, A3, h3, h4, h5, rfl⟩ := goQ_nx h_150
          refine z_istore hX (lv' := [_, _, _, _, _, _, _, _, _, _, _, _, _, _]) (Nat.le_of_ble_eq_true rfl) (by first | exact zpre_0 | exact zpre_n rfl | exact zpre_1 rfl rfl | exact zpre_1 rfl (va_rf_c _)) rfl dX1_nextLine_153 ?_
          refine z_goto hX (tgt := 34) dX1_nextLine_155 rfl ?_
          rw [a0] at h5
          exact ih _ s3 A3 b2 q4 q6 ((hs.tr g1 (ks := kxS) (by intro k hk; simp only [List.mem_cons, List.not_mem_nil, or_false, not_or] at hk ⊢; omega)).tr h3 (by intro k hk; simp only [List.mem_cons, List.not_mem_nil, or_false, not_or] at hk ⊢; omega)) (hA.tr h4 (by intro k hk; simp only [List.mem_cons, List.not_mem_nil, or_false, not_or] at hk ⊢; omega)) (by rw [h3 20 (by decide), g1 20 (by decide)]; exact h20) (by rw [h3 21 (by decide), g1 21 (by decide)]; exact h21) (by rw [h3 27 (by decide), g1 27 (by decide)]; exact h27) (by rw [h3 28 (by decide), g1 28 (by decide)]; exact h28) (nxR_ag g2 (h3 29 (by decide)) (h3 30 (by decide))) h5 (fun w hw => hL w (List.mem_cons_of_mem _ hw)) g4 _ _ _ _ _
        have wr : esum (A 0) 3 w < s 28 → L.foldl (nxS (A 0) (s 27) (s 28)) (some ((esum (A 0) 2 w, esum (A 0) 3 w), esum (A 0) 2 w - s 27, s 28 - esum (A 0) 3 w)) = nxF (A 0) f z (s 27) (s 28) → ∀ (p3 p5 p7 p13 x1 x2 : Option Value), zW X (zR 5 0 0) E (mM E ν m0 ad s1 A1) 0 0 Q 116 [some (.ref m0), some (.int (zI f)), some (.int (zI z)), p3, x1, p5, p13, p7, some (.int (zI (zb true))), some (.long (zJ (esum (A 0) 2 w))), none, some (.long (zJ (esum (A 0) 3 w))), none, x2] [] := by
          intro hlt g4 p3 p5 p7 p13 x1 x2
          have c1 := b1
          obtain ⟨c2, c3⟩ := c1
          refine zW.mask [true, true, true, false, false, false, false, false, true, true, true, true, true, false] (lv' := [_, _, _, none, none, none, none, none, _, _, _, _, _, none]) rfl ?_
          refine z_lload hX rfl dX1_nextLine_116 ?_
          refine z_lstore hX (lv' := [_, _, _, _, _, _, _, _, _, _, _, _, _, _]) (Nat.le_of_ble_eq_true rfl) (by first | exact zpre_0 | exact zpre_n rfl | exact zpre_1 rfl rfl | exact zpre_1 rfl (va_rf_c _)) rfl rfl dX1_nextLine_118 ?_
          refine z_lload hX rfl dX1_nextLine_120 ?_
          refine z_lstore hX (lv' := [_, _, _, _, _, _, _, _, _, _, _, _, _, _]) (Nat.le_of_ble_eq_true rfl) (by first | exact zpre_0 | exact zpre_n rfl | exact zpre_1 rfl rfl | exact zpre_1 rfl (va_rf_c _)) rfl rfl dX1_nextLine_122 ?_
          refine z_aload_n hX rfl (by first | rfl | exact va_rf_r _) dX1_nextLine_124 ?_
          refine z_lload hX rfl dX1_nextLine_125 ?_
          refine z_aload_n hX rfl (by first | rfl | exact va_rf_r _) dX1_nextLine_127 ?_
          refine zm_get hX 27 (by decide) q1397 dX1_nextLine_128 rfl rfl ?_
          refine z_lsub hX dX1_nextLine_131 ?_
          refine zm_putl hX hD 29 (by decide) q1399 dX1_nextLine_132 rfl mset_29 ?_
          refine z_aload_n hX rfl (by first | rfl | exact va_rf_r _) dX1_nextLine_135 ?_
          refine z_aload_n hX rfl (by first | rfl | exact va_rf_r _) dX1_nextLine_136 ?_
          refine zm_get hX 28 (by decide) q1398 dX1_nextLine_137 rfl rfl ?_
          refine z_lload hX rfl dX1_nextLine_140 ?_
          refine z_lsub hX dX1_nextLine_142 ?_
          refine zm_putl hX hD 30 (by decide) q1400 dX1_nextLine_143 rfl mset_30 ?_
          refine z_iconst hX dX1_nextLine_146 ?_
          refine z_istore_n hX (lv' := [_, _, _, _, _, _, _, _, _, _, _, _, _, _]) (Nat.le_of_ble_eq_true rfl) (by first | exact zpre_0 | exact zpre_n rfl | exact zpre_1 rfl rfl | exact zpre_1 rfl (va_rf_c _)) rfl dX1_nextLine_147 ?_
          exact next _ (some ((esum (A 0) 2 w, esum (A 0) 3 w), esum (A 0) 2 w - s 27, s 28 - esum (A 0) 3 w)) _ _ _ _ _ _ _ ((sag.up (ks := [29, 30]) (by simp)).up2 (by simp)) ⟨⟨rfl, rfl, by rw [zg_n (by decide), zg_s, h27], by rw [zg_s, zg_n (by decide), h28]⟩, ⟨b1.1, b1.2⟩, by omega, by omega⟩ g4
        rw [List.foldl_cons] at he
        refine zW.mask [true, true, true, true, true, true, true, true, true, false, false, false, false, false] (lv' := [_, _, _, _, _, _, _, _, _, none, none, none, none, none]) rfl ?_
        refine z_iload hX rfl dX1_nextLine_34 ?_
        refine z_if_eq_b hX dX1_nextLine_36 (tgt := 158) rfl (fun h_36 => ?_) (fun h_36 => ?_)
        · exact absurd h_36 (by decide)
        · refine z_aload_n hX rfl (by first | rfl | exact va_rf_r _) dX1_nextLine_39 ?_
          refine z_iconst hX dX1_nextLine_40 ?_
          refine z_calll (z_runV hX (m_sum _ _ hD hg1 hx18 hl hr hm' (by omega)) (cwV 1 hX.ts (lw_V q1637 q1639 qs50 q71 q1640) rfl rfl rfl (by decide +kernel) (zroom (by decide) (by decide))) dX1_nextLine_41 mM_0 (ci := 1) rfl rfl rfl rfl (by first | exact Nat.le_of_ble_eq_true rfl | simp [va_rf_c, Value.category]) (zhf (by omega) (by omega))) (fun r_41 μ_41 h_41 => ?_)
          obtain ⟨rfl, rfl⟩ := h_41; rw [a0]
          refine z_lstore hX (lv' := [_, _, _, _, _, _, _, _, _, _, _, _, _, _]) (Nat.le_of_ble_eq_true rfl) (by first | exact zpre_0 | exact zpre_n rfl | exact zpre_1 rfl rfl | exact zpre_1 rfl (va_rf_c _)) rfl rfl dX1_nextLine_44 ?_
          refine z_aload_n hX rfl (by first | rfl | exact va_rf_r _) dX1_nextLine_46 ?_
          refine z_iconst hX dX1_nextLine_47 ?_
          refine z_calll (z_runV hX (m_sum _ _ hD hg1 hx18 hl hr hm' (by omega)) (cwV 1 hX.ts (lw_V q1637 q1639 qs50 q71 q1640) rfl rfl rfl (by decide +kernel) (zroom (by decide) (by decide))) dX1_nextLine_48 mM_0 (ci := 1) rfl rfl rfl rfl (by first | exact Nat.le_of_ble_eq_true rfl | simp [va_rf_c, Value.category]) (zhf (by omega) (by omega))) (fun r_48 μ_48 h_48 => ?_)
          obtain ⟨rfl, rfl⟩ := h_48; rw [a0]
          refine z_lstore hX (lv' := [_, _, _, _, _, _, _, _, _, _, _, _, _, _]) (Nat.le_of_ble_eq_true rfl) (by first | exact zpre_0 | exact zpre_n rfl | exact zpre_1 rfl rfl | exact zpre_1 rfl (va_rf_c _)) rfl rfl dX1_nextLine_51 ?_
          refine z_lload hX rfl dX1_nextLine_53 ?_
          refine z_aload_n hX rfl (by first | rfl | exact va_rf_r _) dX1_nextLine_55 ?_
          refine zm_get hX 28 (by decide) q1398 dX1_nextLine_56 rfl rfl ?_
          refine z_lcmp_ge hX (by omega) (by omega) dX1_nextLine_59 dX1_nextLine_60 (tgt := 148) rfl (fun h_59 => ?_) (fun h_59 => ?_)
          · rw [nxS_no (by omega)] at he
            exact next s1 b _ _ _ _ _ _ _ sag.rf hb he
          · refine z_iload_n hX rfl dX1_nextLine_63 ?_
            refine z_if_eq_b hX dX1_nextLine_64 (tgt := 95) rfl (fun h_64 => ?_) (fun h_64 => ?_)
            · cases b with
              | some b => cases h_64
              | none =>
                rw [nxS_none (by omega)] at he
                refine z_iconst hX dX1_nextLine_95 ?_
                refine z_istore hX (lv' := [_, _, _, _, _, _, _, _, _, _, _, _, _, _]) (Nat.le_of_ble_eq_true rfl) (by first | exact zpre_0 | exact zpre_n rfl | exact zpre_1 rfl rfl | exact zpre_1 rfl (va_rf_c _)) rfl dX1_nextLine_96 ?_
                refine z_iload hX rfl dX1_nextLine_98 ?_
                refine z_if_lt hX (by omega) dX1_nextLine_100 (tgt := 116) rfl (fun h_100 => ?_) (fun h_100 => ?_)
                · exact wr (by omega) he _ _ _ _ _ _
                · exact absurd (show (-1 : Int) < 0 by decide) h_100
            · cases b with
              | none => cases h_64
              | some b =>
                obtain ⟨⟨x, y⟩, u, d⟩ := b
                have hb' := hb
                obtain ⟨⟨rfl, rfl, k3, k4⟩, ⟨⟨e1, e2⟩, e3, e4⟩⟩ := hb'
                rw [nxS_some (by omega)] at he
                have hgr := gsg_r ((esum (A 0) 2 w - s 27) * d - u * (s 28 - esum (A 0) 3 w))
                refine z_lload hX rfl dX1_nextLine_67 ?_
                refine z_aload_n hX rfl (by first | rfl | exact va_rf_r _) dX1_nextLine_69 ?_
                refine zm_get hX 27 (by decide) q1397 dX1_nextLine_70 rfl rfl ?_
                refine z_lsub hX dX1_nextLine_73 ?_
                refine z_aload_n hX rfl (by first | rfl | exact va_rf_r _) dX1_nextLine_74 ?_
                refine zm_get hX 28 (by decide) q1398 dX1_nextLine_75 rfl rfl ?_
                refine z_lload hX rfl dX1_nextLine_78 ?_
                refine z_lsub hX dX1_nextLine_80 ?_
                refine z_aload_n hX rfl (by first | rfl | exact va_rf_r _) dX1_nextLine_81 ?_
                refine zm_get hX 29 (by decide) q1399 dX1_nextLine_82 rfl rfl ?_
                refine z_aload_n hX rfl (by first | rfl | exact va_rf_r _) dX1_nextLine_85 ?_
                refine zm_get hX 30 (by decide) q1400 dX1_nextLine_86 rfl rfl ?_
                refine z_calli (z_runS hX (m_compares _ _ _ (by unfold lB; omega) (by omega) (by unfold lB; omega) (by omega)) (va_cwS 4 hX.ts (lw_S q1627 q1628 q71 q1629) rfl rfl rfl (by decide +kernel) (zroom (by decide) (by decide))) dX1_nextLine_89 rfl rfl rfl (by first | exact Nat.le_of_ble_eq_true rfl | simp [va_rf_c, Value.category]) (zhf (by omega) (by omega))) (fun r_89 μ_89 h_89 => ?_)
                obtain ⟨rfl, rfl⟩ := h_89; rw [k3, k4, h27, h28]
                refine z_goto hX (tgt := 96) dX1_nextLine_92 rfl ?_
                refine z_istore hX (lv' := [_, _, _, _, _, _, _, _, _, _, _, _, _, _]) (Nat.le_of_ble_eq_true rfl) (by first | exact zpre_0 | exact zpre_n rfl | exact zpre_1 rfl rfl | exact zpre_1 rfl (va_rf_c _)) rfl dX1_nextLine_96 ?_
                refine z_iload hX rfl dX1_nextLine_98 ?_
                refine z_if_lt hX (by omega) dX1_nextLine_100 (tgt := 116) rfl (fun h_100 => ?_) (fun h_100 => ?_)
                · rw [if_pos (by omega)] at he
                  exact wr (by omega) he _ _ _ _ _ _
                · refine z_iload hX rfl dX1_nextLine_103 ?_
                  refine z_if_ne hX (by omega) dX1_nextLine_105 (tgt := 146) rfl (fun h_105 => ?_) (fun h_105 => ?_)
                  · rw [if_neg (by omega)] at he
                    refine z_iconst hX dX1_nextLine_146 ?_
                    refine z_istore_n hX (lv' := [_, _, _, _, _, _, _, _, _, _, _, _, _, _]) (Nat.le_of_ble_eq_true rfl) (by first | exact zpre_0 | exact zpre_n rfl | exact zpre_1 rfl rfl | exact zpre_1 rfl (va_rf_c _)) rfl dX1_nextLine_147 ?_
                    exact next s1 (some ((p4, p6), u, d)) _ _ _ _ _ _ _ sag.rf hb he
                  · refine z_lload hX rfl dX1_nextLine_108 ?_
                    refine z_lload hX rfl dX1_nextLine_110 ?_
                    refine z_lcmp_ge hX (by omega) (by omega) dX1_nextLine_112 dX1_nextLine_113 (tgt := 146) rfl (fun h_112 => ?_) (fun h_112 => ?_)
                    · rw [if_neg (by omega)] at he
                      refine z_iconst hX dX1_nextLine_146 ?_
                      refine z_istore_n hX (lv' := [_, _, _, _, _, _, _, _, _, _, _, _, _, _]) (Nat.le_of_ble_eq_true rfl) (by first | exact zpre_0 | exact zpre_n rfl | exact zpre_1 rfl rfl | exact zpre_1 rfl (va_rf_c _)) rfl dX1_nextLine_147 ?_
                      exact next s1 (some ((p4, p6), u, d)) _ _ _ _ _ _ _ sag.rf hb he
                    · rw [if_pos (by omega)] at he
                      exact wr (by omega) he _ _ _ _ _ _
  refine z_iconst hX dX1_nextLine_0 ?_
  refine z_istore_n hX (lv' := [_, _, _, _, _, _, _, _, _, _, _, _, _, _]) (Nat.le_of_ble_eq_true rfl) (by first | exact zpre_0 | exact zpre_n rfl | exact zpre_1 rfl rfl | exact zpre_1 rfl (va_rf_c _)) rfl dX1_nextLine_1 ?_
  refine z_lconst hX (z := 0) (by decide) dX1_nextLine_2 ?_
  refine z_lstore hX (lv' := [_, _, _, _, _, _, _, _, _, _, _, _, _, _]) (Nat.le_of_ble_eq_true rfl) (by first | exact zpre_0 | exact zpre_n rfl | exact zpre_1 rfl rfl | exact zpre_1 rfl (va_rf_c _)) rfl rfl dX1_nextLine_3 ?_
  refine z_lconst hX (z := 0) (by decide) dX1_nextLine_5 ?_
  refine z_lstore hX (lv' := [_, _, _, _, _, _, _, _, _, _, _, _, _, _]) (Nat.le_of_ble_eq_true rfl) (by first | exact zpre_0 | exact zpre_n rfl | exact zpre_1 rfl rfl | exact zpre_1 rfl (va_rf_c _)) rfl rfl dX1_nextLine_6 ?_
  refine z_aload_n hX rfl (by first | rfl | exact va_rf_r _) dX1_nextLine_8 ?_
  refine z_iload_n hX rfl dX1_nextLine_9 ?_
  refine z_iload_n hX rfl dX1_nextLine_10 ?_
  refine z_callv (z_runV hX (m_starts _ _ hD ⟨hf.1, by omega⟩ ⟨hz.1, by omega⟩) (cwV 2 hX.ts (lw_V q1603 q1605 qs43 q71 q1606) rfl rfl rfl (by decide +kernel) (zroom (by decide) (by decide))) dX1_nextLine_11 mM_0 (ci := 1) rfl rfl rfl rfl (by first | exact Nat.le_of_ble_eq_true rfl | simp [va_rf_c, Value.category]) (zhf (by omega) (by omega))) (fun μ_11 h_11 => ?_)
  obtain ⟨t1, rfl, ht1⟩ := h_11; generalize hs4 : zg (zg (zg (zg s 18 0) 20 f) 21 z) 19 t1 = s4
  refine z_iload_n hX rfl dX1_nextLine_14 ?_
  refine z_iload_n hX rfl dX1_nextLine_15 ?_
  refine z_icmp_eq hX (by omega) (by omega) dX1_nextLine_16 (tgt := 31) rfl (fun h_16 => ?_) (fun h_16 => ?_)
  · have k1 : sag kxS s s4 := by rw [← hs4]; exact (((sag.up (by simp)).up2 (by simp)).up2 (by simp)).up2 (by simp)
    have k27 : s4 27 = s 27 := by rw [← hs4, zg_n (by decide), zg_n (by decide), zg_n (by decide), zg_n (by decide)]
    have k28 : s4 28 = s 28 := by rw [← hs4, zg_n (by decide), zg_n (by decide), zg_n (by decide), zg_n (by decide)]
    refine z_iconst hX dX1_nextLine_31 ?_
    refine z_istore hX (lv' := [_, _, _, _, _, _, _, _, _, _, _, _, _, _]) (Nat.le_of_ble_eq_true rfl) (by first | exact zpre_0 | exact zpre_n rfl | exact zpre_1 rfl rfl | exact zpre_1 rfl (va_rf_c _)) rfl dX1_nextLine_32 ?_
    refine z_iload hX rfl dX1_nextLine_34 ?_
    refine z_if_eq hX (by omega) dX1_nextLine_36 (tgt := 158) rfl (fun h_36 => ?_) (fun h_36 => ?_)
    · refine z_iload_n hX rfl dX1_nextLine_158 ?_
      refine z_if_eq hX (by omega) dX1_nextLine_159 (tgt := 174) rfl (fun h_159 => ?_) (fun h_159 => ?_)
      · refine z_iload_n hX rfl dX1_nextLine_174 ?_
        (try rw [← hQ])
        first | refine z_breturn hX true dX1_nextLine_175 (by omega) (by omega) ?_ | refine z_breturn hX false dX1_nextLine_175 (by omega) (by omega) ?_ | refine z_breturn hX _ dX1_nextLine_175 (by omega) (by omega) ?_
        refine ⟨s4, A, k1, sag.rf, by rw [nxF, if_pos h_16]; rfl, ?_, rfl⟩
        rw [nxF, if_pos h_16]
        exact ⟨k27, k28⟩
      · exact absurd rfl h_159
    · exact absurd rfl h_36
  · have k1 : sag kxS s s4 := by rw [← hs4]; exact (((sag.up (by simp)).up2 (by simp)).up2 (by simp)).up2 (by simp)
    have k18 : s4 18 = 0 := by rw [← hs4, zg_n (by decide), zg_n (by decide), zg_n (by decide), zg_s]
    have k20 : s4 20 = f := by rw [← hs4, zg_n (by decide), zg_n (by decide), zg_s]
    have k21 : s4 21 = z := by rw [← hs4, zg_n (by decide), zg_s]
    have k27 : s4 27 = s 27 := by rw [← hs4, zg_n (by decide), zg_n (by decide), zg_n (by decide), zg_n (by decide)]
    have k28 : s4 28 = s 28 := by rw [← hs4, zg_n (by decide), zg_n (by decide), zg_n (by decide), zg_n (by decide)]
    have k19 : gM (s4 19) (fun v => decide (v = f)) := by rw [← hs4, zg_s]; simp only [if_neg h_16] at ht1; exact ht1
    have fin : ∀ r s3 A3, sag [18, 19] s4 s3 → sag [17] A A3 → nxW (A 0) f z (fun v => decide (v = f)) s3 A3 r (gP (A 0) f z) → zW X (zR 5 0 0) E (mM E ν m0 ad s3 A3) 0 0 Q 34 [some (.ref m0), some (.int (zI f)), some (.int (zI z)), some (.int (zI 0)), some (.long (zJ 0)), none, some (.long (zJ 0)), none, some (.int (zI (zb r))), none, none, none, none, none] [] := by
      intro r s3 A3 h3 h4 h5
      exact inner h_16 _ r s3 A3 none 0 0 (k1.tr h3 (by intro k hk; simp only [List.mem_cons, List.not_mem_nil, or_false, not_or] at hk ⊢; omega)) h4 (by rw [h3 20 (by decide)]; exact k20) (by rw [h3 21 (by decide)]; exact k21) (by rw [h3 27 (by decide)]; exact k27) (by rw [h3 28 (by decide)]; exact k28) trivial h5 (fun w hw => hw) (by rw [nxF, if_neg h_16]) _ _ _ _ _
    refine z_aload_n hX rfl (by first | rfl | exact va_rf_r _) dX1_nextLine_19 ?_
    refine z_iconst hX dX1_nextLine_20 ?_
    refine z_callb (z_runV hX (m_go1 _ _ hD hg ⟨hf.1, by omega⟩ ⟨hz.1, by omega⟩ k20 k21 (gu_taken (w := f) (by omega) (by omega) (by simp)) k18 k19) (cwV 1 hX.ts (lw_V q1607 q1609 qs44 q71 q1610) rfl rfl rfl (by decide +kernel) (zroom (by decide) (by decide))) dX1_nextLine_21 mM_0 (ci := 1) rfl rfl rfl rfl (by first | exact Nat.le_of_ble_eq_true rfl | simp [va_rf_c, Value.category]) (zhf (by omega) (by omega))) (fun r_21 μ_21 h_21 => ?_)
    obtain ⟨s3, A3, h3, h4, h5, rfl⟩ := goQ_nx h_21
    refine z_if_eq_b hX dX1_nextLine_24 (tgt := 31) rfl (fun h_24 => ?_) (fun h_24 => ?_)
    · subst h_24
      refine z_iconst hX dX1_nextLine_31 ?_
      refine z_istore hX (lv' := [_, _, _, _, _, _, _, _, _, _, _, _, _, _]) (Nat.le_of_ble_eq_true rfl) (by first | exact zpre_0 | exact zpre_n rfl | exact zpre_1 rfl rfl | exact zpre_1 rfl (va_rf_c _)) rfl dX1_nextLine_32 ?_
      exact fin _ s3 A3 h3 h4 h5
    · subst h_24
      refine z_iconst hX dX1_nextLine_27 ?_
      refine z_goto hX (tgt := 32) dX1_nextLine_28 rfl ?_
      refine z_istore hX (lv' := [_, _, _, _, _, _, _, _, _, _, _, _, _, _]) (Nat.le_of_ble_eq_true rfl) (by first | exact zpre_0 | exact zpre_n rfl | exact zpre_1 rfl rfl | exact zpre_1 rfl (va_rf_c _)) rfl dX1_nextLine_32 ?_
      exact fin _ s3 A3 h3 h4 h5
