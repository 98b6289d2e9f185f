/-! MODEL 14: a path's line, the lower envelope's pieces -/
set_option maxRecDepth 100000
theorem gD_len {a : Int → Int} {z : Int} {es : List Int} (hz : 0 ≤ z ∧ z < 8) (he : ∀ e ∈ es, 0 ≤ a (7 * e + 1) ∧ a (7 * e + 1) ≤ 7) : ∀ (d : Nat) {T : Int → Bool} {v : Int} {p : List Int}, T z = false → p ∈ gD a z es d T v → p.length ≤ gu T
  | 0, _, _, _, _, h => by simp [gD] at h
  | d + 1, T, v, p, hT, h => by
    simp only [gD, List.mem_flatMap] at h
    obtain ⟨e, h1, h2⟩ := h
    have h3 := he e h1
    unfold gI at h2
    split at h2
    · rename_i hk
      rw [gok_iff] at hk
      split at h2
      · rw [List.mem_singleton] at h2
        subst h2
        have := gu_push hz.1 hz.2 hT
        rw [List.length_singleton]
        omega
      · rename_i hne
        rw [List.mem_map] at h2
        obtain ⟨q, h4, rfl⟩ := h2
        have hTw : T (a (7 * e + 1)) = false := by
          rcases hk.2 with h | h
          · exact absurd h hne
          · exact h
        have h5 := gD_len hz he d (T := gtk T (a (7 * e + 1))) (by
          rw [gtk, hT, Bool.false_or]
          exact decide_eq_false (fun q => hne q.symm)) h4
        have h6 := gu_push h3.1 (by omega) hTw
        rw [List.length_cons]
        omega
    · cases h2
theorem gP_mem {a : Int → Int} (hg : gV a) {f z : Int} (hf : 0 ≤ f ∧ f ≤ 7) (hz : 0 ≤ z ∧ z ≤ 7) (hne : ¬ f = z) {w : List Int} (h : w ∈ gP a f z) : w.length ≤ 7 ∧ ∀ e ∈ w, 0 ≤ e ∧ e < a 112 := by
  have h2 := (gAll_mem h).2
  have h1 := gD_len (a := a) (z := z) (es := er 0 (a 112)) ⟨hz.1, by omega⟩ (fun e he => gV_to hg e (er_mem.mp he).1 (er_mem.mp he).2) 8 (T := fun v => decide (v = f)) (decide_eq_false (fun q => hne q.symm)) h
  have h3 := gu_taken (T := fun v => decide (v = f)) (w := f) hf.1 (by omega) (by simp)
  exact ⟨by omega, h2⟩
theorem esum_7 {a : Int → Int} (hg : gV a) {p : List Int} (hl : p.length ≤ 7) (hm : ∀ e ∈ p, 0 ≤ e ∧ e < a 112) : (-693 ≤ esum a 2 p ∧ esum a 2 p ≤ 693) ∧ -63 ≤ esum a 3 p ∧ esum a 3 p ≤ 63 := by
  have h := esum_b (a := a) (w := 2) (lo := -99) (hi := 99) p (fun e he => by
    have h1 := hg.2 e (hm e he).1 (hm e he).2
    unfold eV at h1
    omega)
  have h' := esum_b (a := a) (w := 3) (lo := -9) (hi := 9) p (fun e he => by
    have h1 := hg.2 e (hm e he).1 (hm e he).2
    unfold eV at h1
    omega)
  omega
/-- the lowest line at lo -/
def frS (a : Int → Int) (lo : Int) (b : Option (Int × Int)) (w : List Int) : Option (Int × Int) :=
  match b with
  | none => some (esum a 2 w, esum a 3 w)
  | some (x, y) => if esum a 2 w + esum a 3 w * lo - x - y * lo < 0 ∨ (esum a 2 w + esum a 3 w * lo - x - y * lo = 0 ∧ esum a 3 w < y) then some (esum a 2 w, esum a 3 w) else some (x, y)
def frF (a : Int → Int) (f z lo : Int) : Option (Int × Int) := if f = z then some (0, 0) else (gP a f z).foldl (frS a lo) none
/-- the next crossing behind the line cx + cy t -/
def nxS (a : Int → Int) (cx cy : Int) (b : Option ((Int × Int) × Int × Int)) (w : List Int) : Option ((Int × Int) × Int × Int) :=
  if esum a 3 w < cy then
    match b with
    | none => some ((esum a 2 w, esum a 3 w), esum a 2 w - cx, cy - esum a 3 w)
    | some ((px, py), u, d) =>
      if gsg ((esum a 2 w - cx) * d - u * (cy - esum a 3 w)) < 0 ∨ (gsg ((esum a 2 w - cx) * d - u * (cy - esum a 3 w)) = 0 ∧ esum a 3 w < py) then some ((esum a 2 w, esum a 3 w), esum a 2 w - cx, cy - esum a 3 w) else some ((px, py), u, d)
  else b
def nxF (a : Int → Int) (f z cx cy : Int) : Option ((Int × Int) × Int × Int) := if f = z then none else (gP a f z).foldl (nxS a cx cy) none
def frB (x y : Int) : Prop := (-693 ≤ x ∧ x ≤ 693) ∧ -63 ≤ y ∧ y ≤ 63
def frR (s : Nat → Int) : Option (Int × Int) → Prop
  | none => s 27 = 0 ∧ s 28 = 0
  | some (x, y) => (s 27 = x ∧ s 28 = y) ∧ frB x y
theorem frR_ag {s t : Nat → Int} : ∀ {b}, frR s b → t 27 = s 27 → t 28 = s 28 → frR t b
  | none, h, h1, h2 => ⟨h1.trans h.1, h2.trans h.2⟩
  | some (_, _), h, h1, h2 => ⟨⟨h1.trans h.1.1, h2.trans h.1.2⟩, h.2⟩
theorem frR_r {s : Nat → Int} : ∀ {b}, frR s b → (-693 ≤ s 27 ∧ s 27 ≤ 693) ∧ -63 ≤ s 28 ∧ s 28 ≤ 63
  | none, h => by obtain ⟨h1, h2⟩ := h; omega
  | some (_, _), h => by obtain ⟨⟨h1, h2⟩, h3, h4⟩ := h; omega
abbrev klS : List Nat := [18, 19, 20, 21, 27, 28]
abbrev kxS : List Nat := [18, 19, 20, 21, 27, 28, 29, 30]
theorem m_firstLine (l : Launch) (E : zE) {ν : zM} {m0 : Nat} {ad : Nat → Nat} {s : Nat → Int} {A : Nat → Int → Int} (hD : mD m0 ad) (hg : gV (A 0)) {f z lo : Int} (hf : 0 ≤ f ∧ f ≤ 7) (hz : 0 ≤ z ∧ z ≤ 7) (hlo : -50 ≤ lo ∧ lo ≤ 49) : Met l yX1_firstLine (ws_ yX1_firstLine cX1_firstLine 12 (some .boolean)) (zR 5 0 0) (va_Pc [.ref m0, .int (zI f), .int (zI z), .int (zI lo)] (zPre E (mM E ν m0 ad s A))) (zQb E (fun r μ' => ∃ s' A', sag klS s s' ∧ sag [17] A A' ∧ (frF (A 0) f z lo).isSome = r ∧ frR s' (frF (A 0) f z lo) ∧ mM E ν m0 ad s' A' = μ')) 0 0 (zA E) := by
  refine zmet (cc := cX1_firstLine) [_, _, _, _, _, _, _, _, _, _, _, _] (by decide) (Nat.le_of_ble_eq_true rfl) rfl rfl ?_
  intro X hl hX hinit; subst hl
  have hX : zOK X _ cX1_firstLine RX1 (some .boolean) 12 := hX
  generalize hQ : MQ _ _ _ _ _ _ _ = Q
  have inner : ¬ f = z → ∀ (L : List (List Int)) (r : Bool) (s1 : Nat → Int) (A1 : Nat → Int → Int) (b : Option (Int × Int)), sag klS s s1 → sag [17] A A1 → s1 20 = f → s1 21 = z → frR s1 b → nxW (A 0) f z (fun v => decide (v = f)) s1 A1 r L → (∀ w ∈ L, w ∈ gP (A 0) f z) → L.foldl (frS (A 0) lo) b = frF (A 0) f z lo → ∀ y1 y2 y3 y4 y5 y6, zW X (zR 5 0 0) E (mM E ν m0 ad s1 A1) 0 0 Q 48 [some (.ref m0), some (.int (zI f)), some (.int (zI z)), some (.int (zI lo)), some (.int (zI (zb b.isSome))), some (.int (zI (zb r))), y1, y2, y3, y4, y5, y6] [] := by
    intro hfz L
    have hu : gu (fun v => decide (v = f)) ≤ 7 := gu_taken (w := f) (by omega) (by omega) (by simp)
    induction L with
    | nil =>
      intro r s1 A1 b hs hA h20 h21 hb hn hL he y1 y2 y3 y4 y5 y6
      refine zW.mask [true, true, true, true, true, true, false, false, false, false, false, false] (lv' := [_, _, _, _, _, _, none, none, none, none, none, none]) rfl ?_
      rcases hn with ⟨rfl, -⟩ | ⟨-, p', L', h, -⟩
      · refine z_iload hX rfl dX1_firstLine_48 ?_
        refine z_if_eq_b hX dX1_firstLine_50 (tgt := 144) rfl (fun h_50 => ?_) (fun h_50 => ?_)
        · refine z_iload hX rfl dX1_firstLine_144 ?_
          (try rw [← hQ])
          first | refine z_breturn hX true dX1_firstLine_146 (by omega) (by omega) ?_ | refine z_breturn hX false dX1_firstLine_146 (by omega) (by omega) ?_ | refine z_breturn hX _ dX1_firstLine_146 (by omega) (by omega) ?_
          rw [List.foldl_nil] at he
          exact ⟨s1, A1, hs, hA, by rw [← he], by rw [← he]; exact hb, rfl⟩
        · exact absurd h_50 (by decide)
      · cases h
    | cons w L ih =>
      intro r s1 A1 b hs hA h20 h21 hb hn hL he y1 y2 y3 y4 y5 y6
      rcases hn with ⟨-, h⟩ | ⟨rfl, p', L', h, hat⟩
      · cases h
      · obtain ⟨rfl, rfl⟩ : w = p' ∧ L = L' := by cases h; exact ⟨rfl, rfl⟩
        have a0 : A1 0 = A 0 := hA 0 (by decide)
        have hg1 : gV (A1 0) := by rw [a0]; exact hg
        obtain ⟨hl7, hm⟩ := gP_mem hg hf hz hfz (hL w List.mem_cons_self)
        have b1 := esum_7 hg hl7 hm
        have b2 := mul_r (q := esum (A 0) 3 w) (M := 63) (by omega) (show -50 ≤ lo ∧ lo ≤ 50 by omega)
        have b3 := frR_r hb
        have b4 := mul_r (q := s1 28) (M := 63) (by omega) (show -50 ≤ lo ∧ lo ≤ 50 by omega)
        have hat2 : atW (A1 0) f z (fun v => decide (v = f)) (s1 18) (s1 19) (A1 17) w L := by
          rw [a0]
          exact hat
        obtain ⟨hx, hx18, hl, h1, hr, -⟩ := hat
        have hm' : ∀ e ∈ w, 0 ≤ e ∧ e < A1 0 112 := by rw [a0]; exact hm
        have next : ∀ (s2 : Nat → Int) (b2 : Option (Int × Int)) (c x1 x2 x3 x4 x5 x6 : Option Value), sag [27, 28] s1 s2 → frR s2 b2 → b2.isSome = true → L.foldl (frS (A 0) lo) b2 = frF (A 0) f z lo → zW X (zR 5 0 0) E (mM E ν m0 ad s2 A1) 0 0 Q 131 [some (.ref m0), some (.int (zI f)), some (.int (zI z)), some (.int (zI lo)), c, some (.int (zI (zb true))), x1, x2, x3, x4, x5, x6] [] := by
          intro s2 b2 c x1 x2 x3 x4 x5 x6 g1 g2 g3 g4
          have hat3 : atW (A1 0) f z (fun v => decide (v = f)) (s2 18) (s2 19) (A1 17) w L := by
            rw [g1 18 (by decide), g1 19 (by decide)]
            exact hat2
          refine zW.mask [true, true, true, true, false, true, false, false, false, false, false, false] (lv' := [_, _, _, _, none, _, none, none, none, none, none, none]) rfl ?_
          refine z_iconst hX dX1_firstLine_131 ?_
          refine z_istore hX (lv' := [_, _, _, _, _, _, _, _, _, _, _, _]) (Nat.le_of_ble_eq_true rfl) (by first | exact zpre_0 | exact zpre_n rfl | exact zpre_1 rfl rfl | exact zpre_1 rfl (va_rf_c _)) rfl dX1_firstLine_132 ?_
          refine z_aload_n hX rfl (by first | rfl | exact va_rf_r _) dX1_firstLine_134 ?_
          refine z_iconst hX dX1_firstLine_135 ?_
          refine z_callb (z_runV hX (m_go2 _ _ hD hg1 (by omega) (by omega) (by rw [g1 20 (by decide)]; exact h20) (by rw [g1 21 (by decide)]; exact h21) hu hat3) (cwV 1 hX.ts (lw_V q1607 q1609 qs44 q71 q1610) rfl rfl rfl (by decide +kernel) (zroom (by decide) (by decide))) dX1_firstLine_136 mM_0 (ci := 1) rfl rfl rfl rfl (by first | exact Nat.le_of_ble_eq_true rfl | simp [va_rf_c, Value.category]) (zhf (by omega) (by omega))) (fun r_136 μ_136 h_136 => ?_)
          obtain ⟨s3, A3, h3, h4, h5, rfl⟩ := goQ_nx h_136
          refine z_istore hX (lv' := [_, _, _, _, _, _, _, _, _, _, _, _]) (Nat.le_of_ble_eq_true rfl) (by first | exact zpre_0 | exact zpre_n rfl | exact zpre_1 rfl rfl | exact zpre_1 rfl (va_rf_c _)) rfl dX1_firstLine_139 ?_
          refine z_goto hX (tgt := 48) dX1_firstLine_141 rfl ?_
          rw [a0] at h5
          have h6 := ih _ s3 A3 b2 ((hs.tr g1 (ks := klS) (by intro k hk; simp only [List.mem_cons, List.not_mem_nil, or_false, not_or] at hk ⊢; omega)).tr h3 (by intro k hk; simp only [List.mem_cons, List.not_mem_nil, or_false, not_or] at hk ⊢; omega)) (hA.tr h4 (by intro k hk; simp only [List.mem_cons, List.not_mem_nil, or_false, not_or] at hk ⊢; omega)) (by rw [h3 20 (by decide), g1 20 (by decide)]; exact h20) (by rw [h3 21 (by decide), g1 21 (by decide)]; exact h21) (frR_ag g2 (h3 27 (by decide)) (h3 28 (by decide))) h5 (fun w hw => hL w (List.mem_cons_of_mem _ hw)) g4
          rw [g3] at h6
          exact h6 _ _ _ _ _ _
        have wr : ∀ (c x1 x2 : Option Value), L.foldl (frS (A 0) lo) (some (esum (A 0) 2 w, esum (A 0) 3 w)) = frF (A 0) f z lo → zW X (zR 5 0 0) E (mM E ν m0 ad s1 A1) 0 0 Q 119 [some (.ref m0), some (.int (zI f)), some (.int (zI z)), some (.int (zI lo)), c, some (.int (zI (zb true))), some (.long (zJ (esum (A 0) 2 w))), none, some (.long (zJ (esum (A 0) 3 w))), none, x1, x2] [] := by
          intro c x1 x2 g4
          refine zW.mask [true, true, true, true, false, true, true, true, true, true, false, false] (lv' := [_, _, _, _, none, _, _, _, _, _, none, none]) rfl ?_
          refine z_aload_n hX rfl (by first | rfl | exact va_rf_r _) dX1_firstLine_119 ?_
          refine z_lload hX rfl dX1_firstLine_120 ?_
          refine zm_putl hX hD 27 (by decide) q1397 dX1_firstLine_122 rfl mset_27 ?_
          refine z_aload_n hX rfl (by first | rfl | exact va_rf_r _) dX1_firstLine_125 ?_
          refine z_lload hX rfl dX1_firstLine_126 ?_
          refine zm_putl hX hD 28 (by decide) q1398 dX1_firstLine_128 rfl mset_28 ?_
          refine next _ (some (esum (A 0) 2 w, esum (A 0) 3 w)) _ _ _ _ _ _ _ ((sag.up (ks := [27, 28]) (by simp)).up2 (by simp)) ⟨⟨?_, ?_⟩, b1⟩ rfl g4
          · rw [zg_n (by decide), zg_s]
          · rw [zg_s]
        have nw : ∀ (c x1 x2 x3 x4 x5 x6 : Option Value), b.isSome = true → L.foldl (frS (A 0) lo) b = frF (A 0) f z lo → zW X (zR 5 0 0) E (mM E ν m0 ad s1 A1) 0 0 Q 131 [some (.ref m0), some (.int (zI f)), some (.int (zI z)), some (.int (zI lo)), c, some (.int (zI (zb true))), x1, x2, x3, x4, x5, x6] [] := by
          intro c x1 x2 x3 x4 x5 x6 g1 g2
          exact next s1 b _ _ _ _ _ _ _ sag.rf hb g1 g2
        refine zW.mask [true, true, true, true, true, true, false, false, false, false, false, false] (lv' := [_, _, _, _, _, _, none, none, none, none, none, none]) rfl ?_
        rw [List.foldl_cons] at he
        refine z_iload hX rfl dX1_firstLine_48 ?_
        refine z_if_eq_b hX dX1_firstLine_50 (tgt := 144) rfl (fun h_50 => ?_) (fun h_50 => ?_)
        · exact absurd h_50 (by decide)
        · refine z_aload_n hX rfl (by first | rfl | exact va_rf_r _) dX1_firstLine_53 ?_
          refine z_iconst hX dX1_firstLine_54 ?_
          refine z_calll (z_runV hX (m_sum _ _ hD hg1 hx18 hl hr hm' (by omega)) (cwV 1 hX.ts (lw_V q1637 q1639 qs50 q71 q1640) rfl rfl rfl (by decide +kernel) (zroom (by decide) (by decide))) dX1_firstLine_55 mM_0 (ci := 1) rfl rfl rfl rfl (by first | exact Nat.le_of_ble_eq_true rfl | simp [va_rf_c, Value.category]) (zhf (by omega) (by omega))) (fun r_55 μ_55 h_55 => ?_)
          obtain ⟨rfl, rfl⟩ := h_55; rw [a0]
          refine z_lstore hX (lv' := [_, _, _, _, _, _, _, _, _, _, _, _]) (Nat.le_of_ble_eq_true rfl) (by first | exact zpre_0 | exact zpre_n rfl | exact zpre_1 rfl rfl | exact zpre_1 rfl (va_rf_c _)) rfl rfl dX1_firstLine_58 ?_
          refine z_aload_n hX rfl (by first | rfl | exact va_rf_r _) dX1_firstLine_60 ?_
          refine z_iconst hX dX1_firstLine_61 ?_
          refine z_calll (z_runV hX (m_sum _ _ hD hg1 hx18 hl hr hm' (by omega)) (cwV 1 hX.ts (lw_V q1637 q1639 qs50 q71 q1640) rfl rfl rfl (by decide +kernel) (zroom (by decide) (by decide))) dX1_firstLine_62 mM_0 (ci := 1) rfl rfl rfl rfl (by first | exact Nat.le_of_ble_eq_true rfl | simp [va_rf_c, Value.category]) (zhf (by omega) (by omega))) (fun r_62 μ_62 h_62 => ?_)
          obtain ⟨rfl, rfl⟩ := h_62; rw [a0]
          refine z_lstore hX (lv' := [_, _, _, _, _, _, _, _, _, _, _, _]) (Nat.le_of_ble_eq_true rfl) (by first | exact zpre_0 | exact zpre_n rfl | exact zpre_1 rfl rfl | exact zpre_1 rfl (va_rf_c _)) rfl rfl dX1_firstLine_65 ?_
          refine z_lload hX rfl dX1_firstLine_67 ?_
          refine z_lload hX rfl dX1_firstLine_69 ?_
          refine z_iload_n hX rfl dX1_firstLine_71 ?_
          refine z_i2l hX (by omega) dX1_firstLine_72 ?_
          refine z_lmul hX dX1_firstLine_73 ?_
          refine z_ladd hX dX1_firstLine_74 ?_
          refine z_aload_n hX rfl (by first | rfl | exact va_rf_r _) dX1_firstLine_75 ?_
          refine zm_get hX 27 (by decide) q1397 dX1_firstLine_76 rfl rfl ?_
          refine z_lsub hX dX1_firstLine_79 ?_
          refine z_aload_n hX rfl (by first | rfl | exact va_rf_r _) dX1_firstLine_80 ?_
          refine zm_get hX 28 (by decide) q1398 dX1_firstLine_81 rfl rfl ?_
          refine z_iload_n hX rfl dX1_firstLine_84 ?_
          refine z_i2l hX (by omega) dX1_firstLine_85 ?_
          refine z_lmul hX dX1_firstLine_86 ?_
          refine z_lsub hX dX1_firstLine_87 ?_
          refine z_lstore hX (lv' := [_, _, _, _, _, _, _, _, _, _, _, _]) (Nat.le_of_ble_eq_true rfl) (by first | exact zpre_0 | exact zpre_n rfl | exact zpre_1 rfl rfl | exact zpre_1 rfl (va_rf_c _)) rfl rfl dX1_firstLine_88 ?_
          refine z_iload hX rfl dX1_firstLine_90 ?_
          refine z_if_eq_b hX dX1_firstLine_92 (tgt := 119) rfl (fun h_92 => ?_) (fun h_92 => ?_)
          · exact wr _ _ _ (by
              cases b with
              | none => exact he
              | some b => cases h_92)
          · cases b with
            | none => cases h_92
            | some b =>
              obtain ⟨x, y⟩ := b
              obtain ⟨⟨k1, k2⟩, -⟩ := hb
              rw [frS, ← k1, ← k2] at he
              refine z_lload hX rfl dX1_firstLine_95 ?_
              refine z_lconst hX (z := 0) (by decide) dX1_firstLine_97 ?_
              refine z_lcmp_lt hX (by omega) (by omega) dX1_firstLine_98 dX1_firstLine_99 (tgt := 119) rfl (fun h_98 => ?_) (fun h_98 => ?_)
              · exact wr _ _ _ (by rw [if_pos (by omega)] at he; exact he)
              · refine z_lload hX rfl dX1_firstLine_102 ?_
                refine z_lconst hX (z := 0) (by decide) dX1_firstLine_104 ?_
                refine z_lcmp_ne hX (by omega) (by omega) dX1_firstLine_105 dX1_firstLine_106 (tgt := 131) rfl (fun h_105 => ?_) (fun h_105 => ?_)
                · exact nw _ _ _ _ _ _ _ rfl (by rw [if_neg (by omega)] at he; rw [← k1, ← k2]; exact he)
                · refine z_lload hX rfl dX1_firstLine_109 ?_
                  refine z_aload_n hX rfl (by first | rfl | exact va_rf_r _) dX1_firstLine_111 ?_
                  refine zm_get hX 28 (by decide) q1398 dX1_firstLine_112 rfl rfl ?_
                  refine z_lcmp_ge hX (by omega) (by omega) dX1_firstLine_115 dX1_firstLine_116 (tgt := 131) rfl (fun h_115 => ?_) (fun h_115 => ?_)
                  · exact nw _ _ _ _ _ _ _ rfl (by rw [if_neg (by omega)] at he; rw [← k1, ← k2]; exact he)
                  · exact wr _ _ _ (by rw [if_pos (by omega)] at he; exact he)
  refine z_iload_n hX rfl dX1_firstLine_0 ?_
  refine z_iload_n hX rfl dX1_firstLine_1 ?_
  refine z_icmp_ne hX (by omega) (by omega) dX1_firstLine_2 (tgt := 9) rfl (fun h_2 => ?_) (fun h_2 => ?_)
  · refine z_iconst hX dX1_firstLine_9 ?_
    refine z_istore hX (lv' := [_, _, _, _, _, _, _, _, _, _, _, _]) (Nat.le_of_ble_eq_true rfl) (by first | exact zpre_0 | exact zpre_n rfl | exact zpre_1 rfl rfl | exact zpre_1 rfl (va_rf_c _)) rfl dX1_firstLine_10 ?_
    refine z_aload_n hX rfl (by first | rfl | exact va_rf_r _) dX1_firstLine_12 ?_
    refine z_lconst hX (z := 0) (by decide) dX1_firstLine_13 ?_
    refine zm_putl hX hD 27 (by decide) q1397 dX1_firstLine_14 rfl mset_27 ?_
    refine z_aload_n hX rfl (by first | rfl | exact va_rf_r _) dX1_firstLine_17 ?_
    refine z_lconst hX (z := 0) (by decide) dX1_firstLine_18 ?_
    refine zm_putl hX hD 28 (by decide) q1398 dX1_firstLine_19 rfl mset_28 ?_
    refine z_aload_n hX rfl (by first | rfl | exact va_rf_r _) dX1_firstLine_22 ?_
    refine z_iload_n hX rfl dX1_firstLine_23 ?_
    refine z_iload_n hX rfl dX1_firstLine_24 ?_
    refine z_callv (z_runV hX (m_starts _ _ hD ⟨hf.1, by omega⟩ ⟨hz.1, by omega⟩) (cwV 2 hX.ts (lw_V q1603 q1605 qs43 q71 q1606) rfl rfl rfl (by decide +kernel) (zroom (by decide) (by decide))) dX1_firstLine_25 mM_0 (ci := 1) rfl rfl rfl rfl (by first | exact Nat.le_of_ble_eq_true rfl | simp [va_rf_c, Value.category]) (zhf (by omega) (by omega))) (fun μ_25 h_25 => ?_)
    obtain ⟨t1, rfl, ht1⟩ := h_25; generalize hs4 : zg (zg (zg (zg (zg (zg s 27 0) 28 0) 18 0) 20 f) 21 z) 19 t1 = s4
    refine z_iload_n hX rfl dX1_firstLine_28 ?_
    refine z_iload_n hX rfl dX1_firstLine_29 ?_
    refine z_icmp_eq hX (by omega) (by omega) dX1_firstLine_30 (tgt := 45) rfl (fun h_30 => ?_) (fun h_30 => ?_)
    · exact absurd h_30 h_2
    · have k1 : sag klS s s4 := by rw [← hs4]; exact (((((sag.up (by simp)).up2 (by simp)).up2 (by simp)).up2 (by simp)).up2 (by simp)).up2 (by simp)
      have k18 : s4 18 = 0 := by rw [← hs4, zg_n (by decide), zg_n (by decide), zg_n (by decide), zg_s]
      have k20 : s4 20 = f := by rw [← hs4, zg_n (by decide), zg_n (by decide), zg_s]
      have k21 : s4 21 = z := by rw [← hs4, zg_n (by decide), zg_s]
      have k27 : s4 27 = 0 := by rw [← hs4, zg_n (by decide), zg_n (by decide), zg_n (by decide), zg_n (by decide), zg_n (by decide), zg_s]
      have k28 : s4 28 = 0 := by rw [← hs4, zg_n (by decide), zg_n (by decide), zg_n (by decide), zg_n (by decide), zg_s]
      have k19 : gM (s4 19) (fun v => decide (v = f)) := by rw [← hs4, zg_s]; simp only [if_neg h_2] at ht1; exact ht1
      have fin : ∀ r s3 A3, sag [18, 19] s4 s3 → sag [17] A A3 → nxW (A 0) f z (fun v => decide (v = f)) s3 A3 r (gP (A 0) f z) → zW X (zR 5 0 0) E (mM E ν m0 ad s3 A3) 0 0 Q 48 [some (.ref m0), some (.int (zI f)), some (.int (zI z)), some (.int (zI lo)), some (.int (zI 0)), some (.int (zI (zb r))), none, none, none, none, none, none] [] := by
        intro r s3 A3 h3 h4 h5
        exact inner h_2 _ r s3 A3 none (k1.tr h3 (by intro k hk; simp only [List.mem_cons, List.not_mem_nil, or_false, not_or] at hk ⊢; omega)) h4 (by rw [h3 20 (by decide)]; exact k20) (by rw [h3 21 (by decide)]; exact k21) ⟨by rw [h3 27 (by decide)]; exact k27, by rw [h3 28 (by decide)]; exact k28⟩ h5 (fun w hw => hw) (by rw [frF, if_neg h_2]) _ _ _ _ _ _
      refine z_aload_n hX rfl (by first | rfl | exact va_rf_r _) dX1_firstLine_33 ?_
      refine z_iconst hX dX1_firstLine_34 ?_
      refine z_callb (z_runV hX (m_go1 _ _ hD hg ⟨hf.1, by omega⟩ ⟨hz.1, by omega⟩ k20 k21 (gu_taken (w := f) (by omega) (by omega) (by simp)) k18 k19) (cwV 1 hX.ts (lw_V q1607 q1609 qs44 q71 q1610) rfl rfl rfl (by decide +kernel) (zroom (by decide) (by decide))) dX1_firstLine_35 mM_0 (ci := 1) rfl rfl rfl rfl (by first | exact Nat.le_of_ble_eq_true rfl | simp [va_rf_c, Value.category]) (zhf (by omega) (by omega))) (fun r_35 μ_35 h_35 => ?_)
      obtain ⟨s3, A3, h3, h4, h5, rfl⟩ := goQ_nx h_35
      refine z_if_eq_b hX dX1_firstLine_38 (tgt := 45) rfl (fun h_38 => ?_) (fun h_38 => ?_)
      · subst h_38
        refine z_iconst hX dX1_firstLine_45 ?_
        refine z_istore hX (lv' := [_, _, _, _, _, _, _, _, _, _, _, _]) (Nat.le_of_ble_eq_true rfl) (by first | exact zpre_0 | exact zpre_n rfl | exact zpre_1 rfl rfl | exact zpre_1 rfl (va_rf_c _)) rfl dX1_firstLine_46 ?_
        exact fin _ s3 A3 h3 h4 h5
      · subst h_38
        refine z_iconst hX dX1_firstLine_41 ?_
        refine z_goto hX (tgt := 46) dX1_firstLine_42 rfl ?_
        refine z_istore hX (lv' := [_, _, _, _, _, _, _, _, _, _, _, _]) (Nat.le_of_ble_eq_true rfl) (by first | exact zpre_0 | exact zpre_n rfl | exact zpre_1 rfl rfl | exact zpre_1 rfl (va_rf_c _)) rfl dX1_firstLine_46 ?_
        exact fin _ s3 A3 h3 h4 h5
  · refine z_iconst hX dX1_firstLine_5 ?_
    refine z_goto hX (tgt := 10) dX1_firstLine_6 rfl ?_
    refine z_istore hX (lv' := [_, _, _, _, _, _, _, _, _, _, _, _]) (Nat.le_of_ble_eq_true rfl) (by first | exact zpre_0 | exact zpre_n rfl | exact zpre_1 rfl rfl | exact zpre_1 rfl (va_rf_c _)) rfl dX1_firstLine_10 ?_
    refine z_aload_n hX rfl (by first | rfl | exact va_rf_r _) dX1_firstLine_12 ?_
    refine z_lconst hX (z := 0) (by decide) dX1_firstLine_13 ?_
    refine zm_putl hX hD 27 (by decide) q1397 dX1_firstLine_14 rfl mset_27 ?_
    refine z_aload_n hX rfl (by first | rfl | exact va_rf_r _) dX1_firstLine_17 ?_
    refine z_lconst hX (z := 0) (by decide) dX1_firstLine_18 ?_
    refine zm_putl hX hD 28 (by decide) q1398 dX1_firstLine_19 rfl mset_28 ?_
    refine z_aload_n hX rfl (by first | rfl | exact va_rf_r _) dX1_firstLine_22 ?_
    refine z_iload_n hX rfl dX1_firstLine_23 ?_
    refine z_iload_n hX rfl dX1_firstLine_24 ?_
    refine z_callv (z_runV hX (m_starts _ _ hD ⟨hf.1, by omega⟩ ⟨hz.1, by omega⟩) (cwV 2 hX.ts (lw_V q1603 q1605 qs43 q71 q1606) rfl rfl rfl (by decide +kernel) (zroom (by decide) (by decide))) dX1_firstLine_25 mM_0 (ci := 1) rfl rfl rfl rfl (by first | exact Nat.le_of_ble_eq_true rfl | simp [va_rf_c, Value.category]) (zhf (by omega) (by omega))) (fun μ_25 h_25 => ?_)
    obtain ⟨t1, rfl, ht1⟩ := h_25; generalize hs4 : zg (zg (zg (zg (zg (zg s 27 0) 28 0) 18 0) 20 f) 21 z) 19 t1 = s4
    refine z_iload_n hX rfl dX1_firstLine_28 ?_
    refine z_iload_n hX rfl dX1_firstLine_29 ?_
    refine z_icmp_eq hX (by omega) (by omega) dX1_firstLine_30 (tgt := 45) rfl (fun h_30 => ?_) (fun h_30 => ?_)
    · refine z_iconst hX dX1_firstLine_45 ?_
      refine z_istore hX (lv' := [_, _, _, _, _, _, _, _, _, _, _, _]) (Nat.le_of_ble_eq_true rfl) (by first | exact zpre_0 | exact zpre_n rfl | exact zpre_1 rfl rfl | exact zpre_1 rfl (va_rf_c _)) rfl dX1_firstLine_46 ?_
      refine z_iload hX rfl dX1_firstLine_48 ?_
      refine z_if_eq hX (by omega) dX1_firstLine_50 (tgt := 144) rfl (fun h_50 => ?_) (fun h_50 => ?_)
      · refine z_iload hX rfl dX1_firstLine_144 ?_
        (try rw [← hQ])
        first | refine z_breturn hX true dX1_firstLine_146 (by omega) (by omega) ?_ | refine z_breturn hX false dX1_firstLine_146 (by omega) (by omega) ?_ | refine z_breturn hX _ dX1_firstLine_146 (by omega) (by omega) ?_
        have k1 : sag klS s s4 := by rw [← hs4]; exact (((((sag.up (by simp)).up2 (by simp)).up2 (by simp)).up2 (by simp)).up2 (by simp)).up2 (by simp)
        have k27 : s4 27 = 0 := by rw [← hs4, zg_n (by decide), zg_n (by decide), zg_n (by decide), zg_n (by decide), zg_n (by decide), zg_s]
        have k28 : s4 28 = 0 := by rw [← hs4, zg_n (by decide), zg_n (by decide), zg_n (by decide), zg_n (by decide), zg_s]
        refine ⟨s4, A, k1, sag.rf, by rw [frF, if_pos h_2]; rfl, ?_, rfl⟩
        rw [frF, if_pos h_2]
        exact ⟨⟨k27, k28⟩, by unfold frB; omega⟩
      · exact absurd rfl h_50
    · exact absurd h_2 h_30
