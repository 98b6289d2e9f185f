/-! MODEL 16: the pieces of the lower envelope -/
set_option maxRecDepth 100000
theorem gcd_pos_R {u d : Int} (hd : 1 ≤ d ∧ d ≤ 126) : 0 < (Int.gcd u d : Int) ∧ (Int.gcd u d : Int) ≤ 126 ∧ u.tdiv (Int.gcd u d : Int) = u / (Int.gcd u d : Int) ∧ d.tdiv (Int.gcd u d : Int) = d / (Int.gcd u d : Int) := by
  have g1 : (Int.gcd u d : Int) ∣ u := Int.gcd_dvd_left _ _
  have g2 : (Int.gcd u d : Int) ∣ d := Int.gcd_dvd_right _ _
  have g3 : 0 < Int.gcd u d := Int.gcd_pos_of_ne_zero_right _ (by omega)
  have g4 : (Int.gcd u d : Int) ≤ d := Int.le_of_dvd (by omega) g2
  exact ⟨by omega, by omega, Int.tdiv_eq_ediv_of_dvd g1, Int.tdiv_eq_ediv_of_dvd g2⟩
def pcZ (F : Int → Int) (i x y u d : Int) : Int → Int := zf (zf (zf (zf F (4 * i) x) (4 * i + 1) y) (4 * i + 2) u) (4 * i + 3) d
theorem m_laysP (l : Launch) (E : zE) {ν : zM} {m0 : Nat} {ad : Nat → Nat} {s : Nat → Int} {A : Nat → Int → Int} (hD : mD m0 ad) {i u d : Int} (hi : 0 ≤ i ∧ i ≤ 126) (hu : -1386 ≤ u ∧ u ≤ 1386) (hd : 1 ≤ d ∧ d ≤ 126) : Met l yX1_lays (ws_ yX1_lays cX1_lays 8 none) (zR 1 0 0) (va_Pc [.ref m0, .int (zI i), .long (zJ u), .long (zJ d)] (zPre E (mM E ν m0 ad s A))) (zQv E (fun μ' => mM E ν m0 ad s (zg A 10 (pcZ (A 10) i (s 27) (s 28) (u / (Int.gcd u d : Int)) (d / (Int.gcd u d : Int)))) = μ')) 0 0 (zA E) := by
  obtain ⟨g1, g2, g3, g4⟩ := gcd_pos_R (u := u) hd
  have e1 := Int.ediv_nonneg (a := d) (b := (Int.gcd u d : Int)) (by omega) (by omega)
  have e2 := Int.ediv_le_self (a := d) (Int.gcd u d : Int) (by omega)
  have r2 : -1386 ≤ u / (Int.gcd u d : Int) ∧ u / (Int.gcd u d : Int) ≤ 1386 := by
    have q1 := Int.le_ediv_iff_mul_le (a := -1386) (b := u) g1
    have q2 := Int.ediv_lt_iff_lt_mul (a := u) (b := 1387) g1
    have q3 := q1.mpr (by omega)
    have q4 := q2.mpr (by omega)
    omega
  refine zmet (cc := cX1_lays) [_, _, _, _, _, _, _, _] (by decide) (Nat.le_of_ble_eq_true rfl) rfl rfl ?_
  intro X hl hX hinit; subst hl
  have hX : zOK X _ cX1_lays RX1 none 8 := hX
  generalize hQ : MQ _ _ _ _ _ _ _ = Q
  refine z_lload_n hX rfl dX1_lays_0 ?_
  refine z_lload hX rfl dX1_lays_1 ?_
  refine z_calll (z_runS hX (m_common _ _ _ (by unfold lB; omega) (by omega)) (va_cwS 2 hX.ts (lw_S q1645 q1646 q71 q1647) rfl rfl rfl (by decide +kernel) (zroom (by decide) (by decide))) dX1_lays_3 rfl rfl rfl (by first | exact Nat.le_of_ble_eq_true rfl | simp [va_rf_c, Value.category]) (zhf (by omega) (by omega))) (fun r_3 μ_3 h_3 => ?_)
  obtain ⟨rfl, rfl⟩ := h_3
  refine z_lstore hX (lv' := [_, _, _, _, _, _, _, _]) (Nat.le_of_ble_eq_true rfl) (by first | exact zpre_0 | exact zpre_n rfl | exact zpre_1 rfl rfl | exact zpre_1 rfl (va_rf_c _)) rfl rfl dX1_lays_6 ?_
  refine z_aload_n hX rfl (by first | rfl | exact va_rf_r _) dX1_lays_8 ?_
  refine zm_get hX 10 (by decide) q1380 dX1_lays_9 rfl rfl ?_
  refine z_iconst hX dX1_lays_12 ?_
  refine z_iload_n hX rfl dX1_lays_13 ?_
  refine z_imul hX dX1_lays_14 ?_
  refine z_aload_n hX rfl (by first | rfl | exact va_rf_r _) dX1_lays_15 ?_
  refine zm_get hX 27 (by decide) q1397 dX1_lays_16 rfl rfl ?_
  refine zm_lastore hX hD 10 (by decide) (by decide) 512 rfl dX1_lays_19 (by omega) ?_
  refine z_aload_n hX rfl (by first | rfl | exact va_rf_r _) dX1_lays_20 ?_
  refine zm_get hX 10 (by decide) q1380 dX1_lays_21 rfl rfl ?_
  refine z_iconst hX dX1_lays_24 ?_
  refine z_iload_n hX rfl dX1_lays_25 ?_
  refine z_imul hX dX1_lays_26 ?_
  refine z_iconst hX dX1_lays_27 ?_
  refine z_iadd hX dX1_lays_28 ?_
  refine z_aload_n hX rfl (by first | rfl | exact va_rf_r _) dX1_lays_29 ?_
  refine zm_get hX 28 (by decide) q1398 dX1_lays_30 rfl rfl ?_
  refine zm_lastore hX hD 10 (by decide) (by decide) 512 rfl dX1_lays_33 (by omega) ?_
  refine z_aload_n hX rfl (by first | rfl | exact va_rf_r _) dX1_lays_34 ?_
  refine zm_get hX 10 (by decide) q1380 dX1_lays_35 rfl rfl ?_
  refine z_iconst hX dX1_lays_38 ?_
  refine z_iload_n hX rfl dX1_lays_39 ?_
  refine z_imul hX dX1_lays_40 ?_
  refine z_iconst hX dX1_lays_41 ?_
  refine z_iadd hX dX1_lays_42 ?_
  refine z_lload_n hX rfl dX1_lays_43 ?_
  refine z_lload hX rfl dX1_lays_44 ?_
  refine z_ldivt hX (by omega) (by omega) (by omega) dX1_lays_46 ?_; rw [g3]
  refine zm_lastore hX hD 10 (by decide) (by decide) 512 rfl dX1_lays_47 (by omega) ?_
  refine z_aload_n hX rfl (by first | rfl | exact va_rf_r _) dX1_lays_48 ?_
  refine zm_get hX 10 (by decide) q1380 dX1_lays_49 rfl rfl ?_
  refine z_iconst hX dX1_lays_52 ?_
  refine z_iload_n hX rfl dX1_lays_53 ?_
  refine z_imul hX dX1_lays_54 ?_
  refine z_iconst hX dX1_lays_55 ?_
  refine z_iadd hX dX1_lays_56 ?_
  refine z_lload hX rfl dX1_lays_57 ?_
  refine z_lload hX rfl dX1_lays_59 ?_
  refine z_ldivt hX (by omega) (by omega) (by omega) dX1_lays_61 ?_; rw [g4]
  refine zm_lastore hX hD 10 (by decide) (by decide) 512 rfl dX1_lays_62 (by omega) ?_
  (try rw [← hQ])
  refine z_return hX dX1_lays_63 (by omega) (by omega) ?_
  simp only [zg_zg, zg_s, pcZ]
/-- the row F keeps the pieces L from the i-th on -/
def pcW (F : Int → Int) : Int → List (Int × Int × Int × Int) → Prop
  | _, [] => True
  | i, (x, y, u, d) :: L => (F (4 * i) = x ∧ F (4 * i + 1) = y ∧ F (4 * i + 2) = u ∧ F (4 * i + 3) = d) ∧ pcW F (i + 1) L
theorem pcZ_n {F : Int → Int} {i x y u d j : Int} (h : j < 4 * i) : pcZ F i x y u d j = F j := by
  unfold pcZ
  rw [zf_n (by omega), zf_n (by omega), zf_n (by omega), zf_n (by omega)]
theorem pcZ_at (F : Int → Int) (i x y u d : Int) : pcZ F i x y u d (4 * i) = x ∧ pcZ F i x y u d (4 * i + 1) = y ∧ pcZ F i x y u d (4 * i + 2) = u ∧ pcZ F i x y u d (4 * i + 3) = d := by
  unfold pcZ
  refine ⟨?_, ?_, ?_, ?_⟩
  · rw [zf_n (by omega), zf_n (by omega), zf_n (by omega), zf_s]
  · rw [zf_n (by omega), zf_n (by omega), zf_s]
  · rw [zf_n (by omega), zf_s]
  · rw [zf_s]
theorem pcW_snoc {F : Int → Int} {x y u d : Int} : ∀ (P : List (Int × Int × Int × Int)) {i : Int}, pcW F i P → pcW (pcZ F (i + P.length) x y u d) i (P ++ [(x, y, u, d)])
  | [], i, _ => by
    rw [List.nil_append, List.length_nil, show i + ((0 : Nat) : Int) = i by omega]
    exact ⟨pcZ_at _ _ _ _ _ _, trivial⟩
  | (x1, y1, u1, d1) :: P, i, h => by
    have h2 := pcW_snoc (x := x) (y := y) (u := u) (d := d) P h.2
    rw [List.length_cons, List.cons_append, show i + ((P.length + 1 : Nat) : Int) = i + 1 + P.length by omega]
    refine ⟨?_, h2⟩
    rw [pcZ_n (by omega), pcZ_n (by omega), pcZ_n (by omega), pcZ_n (by omega)]
    exact h.1
/-- the pieces behind the line cx + cy t -/
def pcS (a : Int → Int) (f z hi : Int) : Nat → Int → Int → List (Int × Int × Int × Int)
  | 0, _, _ => []
  | k + 1, cx, cy =>
    match nxF a f z cx cy with
    | none => []
    | some ((x, y), u, d) => if 0 ≤ gsg (u * 1 - hi * d) then [] else (x, y, u / (Int.gcd u d : Int), d / (Int.gcd u d : Int)) :: pcS a f z hi k x y
def pcL (a : Int → Int) (f z lo hi : Int) : List (Int × Int × Int × Int) :=
  match frF a f z lo with
  | none => []
  | some (x, y) => (x, y, lo / (Int.gcd lo 1 : Int), 1 / (Int.gcd lo 1 : Int)) :: pcS a f z hi 128 x y
def pcC (a : Int → Int) (f z lo hi : Int) : Int :=
  if ¬ ((0 ≤ f ∧ f ≤ 7) ∧ (0 ≤ z ∧ z ≤ 7) ∧ (-50 ≤ lo ∧ lo ≤ 49) ∧ lo + 1 ≤ hi ∧ hi ≤ 50) then gBAD
  else if unbF a f z lo 1 = true ∨ unbF a f z hi 1 = true then -1000005
  else if frF a f z lo = none then -1000001 else 0
abbrev kqS : List Nat := [11, 12, 18, 19, 20, 21, 27, 28, 29, 30]
/-- what a call of pieces leaves -/
def pcQ (E : zE) (ν : zM) (m0 : Nat) (ad : Nat → Nat) (s : Nat → Int) (A : Nat → Int → Int) (f z lo hi : Int) (r : Int) (μ' : zM) : Prop :=
  ∃ s' A', sag kqS s s' ∧ sag [10, 17] A A' ∧ ((¬ pcC (A 0) f z lo hi = 0 ∧ pcC (A 0) f z lo hi = r ∧ s' 11 = s 11 ∧ s' 12 = s 12 ∧ A' 10 = A 10) ∨ (pcC (A 0) f z lo hi = 0 ∧ ((pcL (A 0) f z lo hi).length : Int) = r ∧ s' 11 = (pcL (A 0) f z lo hi).length ∧ s' 12 = 1 ∧ (1 ≤ s' 11 ∧ s' 11 ≤ 127) ∧ pcW (A' 10) 0 (pcL (A 0) f z lo hi))) ∧ mM E ν m0 ad s' A' = μ'
def nxL (cy : Int) : Option ((Int × Int) × Int × Int) → Prop
  | none => True
  | some ((_, y), _, _) => y < cy
theorem nxS_lt (a : Int → Int) (cx cy : Int) (w : List Int) : ∀ b, nxL cy b → nxL cy (nxS a cx cy b w) := by
  intro b hb
  by_cases h : esum a 3 w < cy
  · cases b with
    | none => rw [nxS_none h]; exact h
    | some b =>
      obtain ⟨⟨x, y⟩, u, d⟩ := b
      rw [nxS_some h]
      split
      · exact h
      · exact hb
  · rw [nxS_no h]; exact hb
theorem nxF_lt (a : Int → Int) (f z cx cy : Int) : nxL cy (nxF a f z cx cy) := by
  unfold nxF
  split
  · trivial
  · have : ∀ (L : List (List Int)) b, nxL cy b → nxL cy (L.foldl (nxS a cx cy) b) := by
      intro L
      induction L with
      | nil => intro b h; exact h
      | cons w L ih => intro b h; exact ih _ (nxS_lt a cx cy w b h)
    exact this _ _ trivial
theorem m_pieces (l : Launch) (E : zE) {ν : zM} {m0 : Nat} {ad : Nat → Nat} {s : Nat → Int} {A : Nat → Int → Int} (hD : mD m0 ad) (hg : gV (A 0)) {f z lo hi : Int} (hf : iR f) (hz : iR z) (hlo : iR lo) (hhi : iR hi) : Met l yX1_pieces (ws_ yX1_pieces cX1_pieces 6 (some .int)) (zR 6 0 0) (va_Pc [.ref m0, .int (zI f), .int (zI z), .int (zI lo), .int (zI hi)] (zPre E (mM E ν m0 ad s A))) (zQi E (pcQ E ν m0 ad s A f z lo hi)) 0 0 (zA E) := by
  refine zmet (cc := cX1_pieces) [_, _, _, _, _, _] (by decide) (Nat.le_of_ble_eq_true rfl) rfl rfl ?_
  intro X hl hX hinit; subst hl
  have hX : zOK X _ cX1_pieces RX1 (some .int) 6 := hX
  generalize hQ : MQ _ _ _ _ _ _ _ = Q
  have bad : ¬ ((0 ≤ f ∧ f ≤ 7) ∧ (0 ≤ z ∧ z ≤ 7) ∧ (-50 ≤ lo ∧ lo ≤ 49) ∧ lo + 1 ≤ hi ∧ hi ≤ 50) → zW X (zR 6 0 0) E (mM E ν m0 ad s A) 0 0 Q 44 [some (.ref m0), some (.int (zI f)), some (.int (zI z)), some (.int (zI lo)), some (.int (zI hi)), none] [] := by
    intro h
    have hc : pcC (A 0) f z lo hi = gBAD := by rw [pcC, if_pos h]
    refine z_ldc hX (z := -1000002) q1511 (by decide) dX1_pieces_44 ?_
    (try rw [← hQ])
    refine z_ireturn hX dX1_pieces_46 (by omega) (by omega) ?_
    exact ⟨s, A, sag.rf, sag.rf, Or.inl ⟨by rw [hc]; decide, by rw [hc]; rfl, rfl, rfl, rfl⟩, rfl⟩
  have loop : ∀ (n : Nat) (i : Int) (s1 : Nat → Int) (A1 : Nat → Int → Int) (P : List (Int × Int × Int × Int)), (0 ≤ f ∧ f ≤ 7) ∧ (0 ≤ z ∧ z ≤ 7) ∧ (-50 ≤ lo ∧ lo ≤ 49) ∧ lo + 1 ≤ hi ∧ hi ≤ 50 → pcC (A 0) f z lo hi = 0 → 1 ≤ i → i = P.length → frB (s1 27) (s1 28) → i ≤ 64 - s1 28 → 64 + s1 28 ≤ n → sag kqS s s1 → sag [10, 17] A A1 → pcW (A1 10) 0 P → P ++ pcS (A 0) f z hi n (s1 27) (s1 28) = pcL (A 0) f z lo hi → zW X (zR 6 0 0) E (mM E ν m0 ad s1 A1) 0 0 Q 100 [some (.ref m0), some (.int (zI f)), some (.int (zI z)), some (.int (zI lo)), some (.int (zI hi)), some (.int (zI i))] [] := by
    intro n
    induction n with
    | zero => intro i s1 A1 P _ _ _ _ hB _ h; exfalso; unfold frB at hB; omega
    | succ n ih =>
      intro i s1 A1 P hok hc hi1 hiP hB hib hn hs hA hP he
      have hB' := hB
      unfold frB at hB'
      have a0 : A1 0 = A 0 := hA 0 (by decide)
      rw [pcS] at he
      have fin : ∀ s2 A2, sag kxS s1 s2 → sag [17] A1 A2 → P = pcL (A 0) f z lo hi → zW X (zR 6 0 0) E (mM E ν m0 ad s2 A2) 0 0 Q 147 [some (.ref m0), some (.int (zI f)), some (.int (zI z)), some (.int (zI lo)), some (.int (zI hi)), some (.int (zI i))] [] := by
        intro s2 A2 g1 g2 g3
        refine z_aload_n hX rfl (by first | rfl | exact va_rf_r _) dX1_pieces_147 ?_
        refine z_iload hX rfl dX1_pieces_148 ?_
        refine zm_puti hX hD 11 (by decide) q1381 dX1_pieces_150 rfl mset_11 ?_
        refine z_aload_n hX rfl (by first | rfl | exact va_rf_r _) dX1_pieces_153 ?_
        refine z_iconst hX dX1_pieces_154 ?_
        refine zm_putz hX hD (b := true) 12 (by decide) q1382 dX1_pieces_155 rfl mset_12 ?_
        refine z_iload hX rfl dX1_pieces_158 ?_
        (try rw [← hQ])
        refine z_ireturn hX dX1_pieces_160 (by omega) (by omega) ?_
        refine ⟨_, A2, ((hs.tr g1 (ks := kqS) (by intro k hk; simp only [List.mem_cons, List.not_mem_nil, or_false, not_or] at hk ⊢; omega)).up2 (k := 11) (by simp)).up2 (k := 12) (by simp), hA.tr g2 (by intro k hk; simp only [List.mem_cons, List.not_mem_nil, or_false, not_or] at hk ⊢; omega), Or.inr ⟨hc, ?_, ?_, ?_, ?_, ?_⟩, rfl⟩
        · rw [← g3]; exact hiP.symm
        · rw [← g3, zg_n (by decide), zg_s]; exact hiP
        · rw [zg_s]; rfl
        · rw [zg_n (by decide), zg_s]; omega
        · rw [← g3, g2 10 (by decide)]; exact hP
      refine z_aload_n hX rfl (by first | rfl | exact va_rf_r _) dX1_pieces_100 ?_
      refine z_iload_n hX rfl dX1_pieces_101 ?_
      refine z_iload_n hX rfl dX1_pieces_102 ?_
      refine z_callb (z_runV hX (m_nextLine _ _ hD (by rw [a0]; exact hg) hok.1 hok.2.1 hB) (cwV 2 hX.ts (lw_V q1736 q1738 qs59 q71 q1739) rfl rfl rfl (by decide +kernel) (zroom (by decide) (by decide))) dX1_pieces_103 mM_0 (ci := 1) rfl rfl rfl rfl (by first | exact Nat.le_of_ble_eq_true rfl | simp [va_rf_c, Value.category]) (zhf (by omega) (by omega))) (fun r_103 μ_103 h_103 => ?_)
      obtain ⟨s2, A2, h2, h3, h4, h5, rfl⟩ := h_103; rw [a0] at h4 h5; subst h4
      refine z_if_eq_b hX dX1_pieces_106 (tgt := 147) rfl (fun h_106 => ?_) (fun h_106 => ?_)
      · have e : nxF (A 0) f z (s1 27) (s1 28) = none := by simpa using h_106
        rw [e] at he
        exact fin s2 A2 h2 h3 (by simpa using he)
      · obtain ⟨⟨⟨x, y⟩, u, d⟩, e⟩ := Option.isSome_iff_exists.mp h_106
        have hlt := nxF_lt (A 0) f z (s1 27) (s1 28)
        rw [e] at he h5 hlt
        obtain ⟨⟨k27, k28, k29, k30⟩, hbx, hbu, hbd⟩ := h5
        have hlt' : y < s1 28 := hlt
        have hbx' := hbx
        unfold frB at hbx'
        simp only at he
        have hgr := gsg_r (u * 1 - hi * d)
        refine z_aload_n hX rfl (by first | rfl | exact va_rf_r _) dX1_pieces_109 ?_
        refine zm_get hX 29 (by decide) q1399 dX1_pieces_110 rfl rfl ?_
        refine z_aload_n hX rfl (by first | rfl | exact va_rf_r _) dX1_pieces_113 ?_
        refine zm_get hX 30 (by decide) q1400 dX1_pieces_114 rfl rfl ?_
        refine z_iload hX rfl dX1_pieces_117 ?_
        refine z_i2l hX (by omega) dX1_pieces_119 ?_
        refine z_lconst hX (z := 1) (by decide) dX1_pieces_120 ?_
        refine z_calli (z_runS hX (m_compares _ _ _ (by unfold lB; omega) (by omega) (by unfold lB; omega) (by omega)) (va_cwS 4 hX.ts (lw_S q1627 q1628 q71 q1629) rfl rfl rfl (by decide +kernel) (zroom (by decide) (by decide))) dX1_pieces_121 rfl rfl rfl (by first | exact Nat.le_of_ble_eq_true rfl | simp [va_rf_c, Value.category]) (zhf (by omega) (by omega))) (fun r_121 μ_121 h_121 => ?_)
        obtain ⟨rfl, rfl⟩ := h_121; rw [k29, k30]
        refine z_if_ge hX (by omega) dX1_pieces_124 (tgt := 147) rfl (fun h_124 => ?_) (fun h_124 => ?_)
        · rw [if_pos (by omega), List.append_nil] at he
          exact fin s2 A2 h2 h3 he
        · rw [if_neg (by omega)] at he
          refine z_aload_n hX rfl (by first | rfl | exact va_rf_r _) dX1_pieces_127 ?_
          refine z_iload hX rfl dX1_pieces_128 ?_
          refine z_aload_n hX rfl (by first | rfl | exact va_rf_r _) dX1_pieces_130 ?_
          refine zm_get hX 29 (by decide) q1399 dX1_pieces_131 rfl rfl ?_
          refine z_aload_n hX rfl (by first | rfl | exact va_rf_r _) dX1_pieces_134 ?_
          refine zm_get hX 30 (by decide) q1400 dX1_pieces_135 rfl rfl ?_
          refine z_callv (z_runV hX (m_laysP _ _ hD (by omega) (by omega) (by omega)) (cwV 3 hX.ts (lw_V q1732 q1734 qs58 q71 q1735) rfl rfl rfl (by decide +kernel) (zroom (by decide) (by decide))) dX1_pieces_138 mM_0 (ci := 1) rfl rfl rfl rfl (by first | exact Nat.le_of_ble_eq_true rfl | simp [va_rf_c, Value.category]) (zhf (by omega) (by omega))) (fun μ_138 h_138 => ?_)
          obtain rfl := h_138; rw [k27, k28, k29, k30]
          refine z_iinc hX (lv' := [_, _, _, _, _, _]) rfl (Nat.le_of_ble_eq_true rfl) (by first | exact zpre_0 | exact zpre_n rfl | exact zpre_1 rfl rfl | exact zpre_1 rfl (va_rf_c _)) rfl dX1_pieces_141 ?_
          refine z_goto hX (tgt := 100) dX1_pieces_144 rfl ?_
          have h6 := ih (i + 1) s2 (zg A2 10 (pcZ (A2 10) i x y (u / (Int.gcd u d : Int)) (d / (Int.gcd u d : Int)))) (P ++ [(x, y, u / (Int.gcd u d : Int), d / (Int.gcd u d : Int))]) hok hc (by omega) (by rw [List.length_append, List.length_singleton]; omega) (by rw [k27, k28]; exact hbx) (by omega) (by omega) (hs.tr h2 (ks := kqS) (by intro k hk; simp only [List.mem_cons, List.not_mem_nil, or_false, not_or] at hk ⊢; omega)) ((hA.tr h3 (ks := [10, 17]) (by intro k hk; simp only [List.mem_cons, List.not_mem_nil, or_false, not_or] at hk ⊢; omega)).up2 (by simp)) (by
            rw [zg_s, h3 10 (by decide), show i = 0 + (P.length : Int) by omega]
            exact pcW_snoc P hP) (by rw [List.append_assoc, k27, k28]; exact he)
          exact h6
  refine z_iload_n hX rfl dX1_pieces_0 ?_
  refine z_callb (z_runS hX (m_isNode _ _ _ hf) (va_cwS 1 hX.ts (lw_S q1497 q1498 q71 q1499) rfl rfl rfl (by decide +kernel) (zroom (by decide) (by decide))) dX1_pieces_1 rfl rfl rfl (by first | exact Nat.le_of_ble_eq_true rfl | simp [va_rf_c, Value.category]) (zhf (by omega) (by omega))) (fun r_1 μ_1 h_1 => ?_)
  obtain ⟨rfl, rfl⟩ := h_1
  refine z_if_eq_b hX dX1_pieces_4 (tgt := 44) rfl (fun h_4 => ?_) (fun h_4 => ?_)
  · exact bad (by simp at h_4; omega)
  · refine z_iload_n hX rfl dX1_pieces_7 ?_
    refine z_callb (z_runS hX (m_isNode _ _ _ hz) (va_cwS 1 hX.ts (lw_S q1497 q1498 q71 q1499) rfl rfl rfl (by decide +kernel) (zroom (by decide) (by decide))) dX1_pieces_8 rfl rfl rfl (by first | exact Nat.le_of_ble_eq_true rfl | simp [va_rf_c, Value.category]) (zhf (by omega) (by omega))) (fun r_8 μ_8 h_8 => ?_)
    obtain ⟨rfl, rfl⟩ := h_8
    refine z_if_eq_b hX dX1_pieces_11 (tgt := 44) rfl (fun h_11 => ?_) (fun h_11 => ?_)
    · exact bad (by simp at h_11; omega)
    · refine z_iload_n hX rfl dX1_pieces_14 ?_
      refine z_i2l hX (by omega) dX1_pieces_15 ?_
      refine z_ldc2_w hX (z := -50) q1724 (by decide) dX1_pieces_16 ?_
      refine z_ldc2_w hX (z := 49) q1725 (by decide) dX1_pieces_19 ?_
      refine z_callb (z_runS hX (m_in _ _ _ (by omega) (by omega) (by omega)) (va_cwS 3 hX.ts (lw_S q1501 q1502 q71 q1503) rfl rfl rfl (by decide +kernel) (zroom (by decide) (by decide))) dX1_pieces_22 rfl rfl rfl (by first | exact Nat.le_of_ble_eq_true rfl | simp [va_rf_c, Value.category]) (zhf (by omega) (by omega))) (fun r_22 μ_22 h_22 => ?_)
      obtain ⟨rfl, rfl⟩ := h_22
      refine z_if_eq_b hX dX1_pieces_25 (tgt := 44) rfl (fun h_25 => ?_) (fun h_25 => ?_)
      · exact bad (by simp at h_25; omega)
      · have hlo2 : -50 ≤ lo ∧ lo ≤ 49 := by simp at h_25; omega
        refine z_iload hX rfl dX1_pieces_28 ?_
        refine z_i2l hX (by omega) dX1_pieces_30 ?_
        refine z_iload_n hX rfl dX1_pieces_31 ?_
        refine z_iconst hX dX1_pieces_32 ?_
        refine z_iadd hX dX1_pieces_33 ?_
        refine z_i2l hX (by omega) dX1_pieces_34 ?_
        refine z_ldc2_w hX (z := 50) q1726 (by decide) dX1_pieces_35 ?_
        refine z_callb (z_runS hX (m_in _ _ _ (by omega) (by omega) (by omega)) (va_cwS 3 hX.ts (lw_S q1501 q1502 q71 q1503) rfl rfl rfl (by decide +kernel) (zroom (by decide) (by decide))) dX1_pieces_38 rfl rfl rfl (by first | exact Nat.le_of_ble_eq_true rfl | simp [va_rf_c, Value.category]) (zhf (by omega) (by omega))) (fun r_38 μ_38 h_38 => ?_)
        obtain ⟨rfl, rfl⟩ := h_38
        refine z_if_ne_b hX dX1_pieces_41 (tgt := 47) rfl (fun h_41 => ?_) (fun h_41 => ?_)
        · have hok : (0 ≤ f ∧ f ≤ 7) ∧ (0 ≤ z ∧ z ≤ 7) ∧ (-50 ≤ lo ∧ lo ≤ 49) ∧ lo + 1 ≤ hi ∧ hi ≤ 50 := by simp at h_4 h_11 h_25 h_41; omega
          have unb : ∀ s2 A2, sag kcS s s2 → sag [17] A A2 → unbF (A 0) f z lo 1 = true ∨ unbF (A 0) f z hi 1 = true → zW X (zR 6 0 0) E (mM E ν m0 ad s2 A2) 0 0 Q 72 [some (.ref m0), some (.int (zI f)), some (.int (zI z)), some (.int (zI lo)), some (.int (zI hi)), none] [] := by
            intro s2 A2 g1 g2 g3
            have hc : pcC (A 0) f z lo hi = -1000005 := by rw [pcC, if_neg (not_not_intro hok), if_pos g3]
            refine z_ldc_w hX (z := -1000005) q1727 (by decide) dX1_pieces_72 ?_
            (try rw [← hQ])
            refine z_ireturn hX dX1_pieces_75 (by omega) (by omega) ?_
            exact ⟨s2, A2, g1.mono (by intro k hk; simp only [List.mem_cons, List.not_mem_nil, or_false, not_or] at hk ⊢; omega), g2.mono (by intro k hk; simp only [List.mem_cons, List.not_mem_nil, or_false, not_or] at hk ⊢; omega), Or.inl ⟨by rw [hc]; decide, hc, g1 11 (by decide), g1 12 (by decide), g2 10 (by decide)⟩, rfl⟩
          refine z_aload_n hX rfl (by first | rfl | exact va_rf_r _) dX1_pieces_47 ?_
          refine z_iload_n hX rfl dX1_pieces_48 ?_
          refine z_iload_n hX rfl dX1_pieces_49 ?_
          refine z_iload_n hX rfl dX1_pieces_50 ?_
          refine z_i2l hX (by omega) dX1_pieces_51 ?_
          refine z_lconst hX (z := 1) (by decide) dX1_pieces_52 ?_
          refine z_callb (z_runV hX (m_isUnbounded _ _ hD hg hok.1 hok.2.1 (by omega) (by omega)) (cwV 4 hX.ts (lw_V q1707 q1709 qs54 q71 q1710) rfl rfl rfl (by decide +kernel) (zroom (by decide) (by decide))) dX1_pieces_53 mM_0 (ci := 1) rfl rfl rfl rfl (by first | exact Nat.le_of_ble_eq_true rfl | simp [va_rf_c, Value.category]) (zhf (by omega) (by omega))) (fun r_53 μ_53 h_53 => ?_)
          obtain ⟨s2, A2, hs, hA, hub, rfl⟩ := h_53; subst hub
          refine z_if_ne_b hX dX1_pieces_56 (tgt := 72) rfl (fun h_56 => ?_) (fun h_56 => ?_)
          · exact unb s2 A2 hs hA (Or.inl h_56)
          · have a0 : A2 0 = A 0 := hA 0 (by decide)
            refine z_aload_n hX rfl (by first | rfl | exact va_rf_r _) dX1_pieces_59 ?_
            refine z_iload_n hX rfl dX1_pieces_60 ?_
            refine z_iload_n hX rfl dX1_pieces_61 ?_
            refine z_iload hX rfl dX1_pieces_62 ?_
            refine z_i2l hX (by omega) dX1_pieces_64 ?_
            refine z_lconst hX (z := 1) (by decide) dX1_pieces_65 ?_
            refine z_callb (z_runV hX (m_isUnbounded _ _ hD (by rw [a0]; exact hg) hok.1 hok.2.1 (by omega) (by omega)) (cwV 4 hX.ts (lw_V q1707 q1709 qs54 q71 q1710) rfl rfl rfl (by decide +kernel) (zroom (by decide) (by decide))) dX1_pieces_66 mM_0 (ci := 1) rfl rfl rfl rfl (by first | exact Nat.le_of_ble_eq_true rfl | simp [va_rf_c, Value.category]) (zhf (by omega) (by omega))) (fun r_66 μ_66 h_66 => ?_)
            obtain ⟨s3, A3, hs3, hA3, hub, rfl⟩ := h_66; subst hub; rw [a0]
            refine z_if_eq_b hX dX1_pieces_69 (tgt := 76) rfl (fun h_69 => ?_) (fun h_69 => ?_)
            · have a03 : A3 0 = A 0 := (hA3 0 (by decide)).trans a0
              have hs03 : sag kcS s s3 := hs.tr hs3 (by intro k hk; simp only [List.mem_cons, List.not_mem_nil, or_false, not_or] at hk ⊢; omega)
              have hA03 : sag [17] A A3 := hA.tr hA3 (by intro k hk; simp only [List.mem_cons, List.not_mem_nil, or_false, not_or] at hk ⊢; omega)
              have hnu : ¬ (unbF (A 0) f z lo 1 = true ∨ unbF (A 0) f z hi 1 = true) := by
                rintro (h | h)
                · rw [h] at h_56; exact absurd h_56 (by decide)
                · rw [h] at h_69; exact absurd h_69 (by decide)
              refine z_aload_n hX rfl (by first | rfl | exact va_rf_r _) dX1_pieces_76 ?_
              refine z_iload_n hX rfl dX1_pieces_77 ?_
              refine z_iload_n hX rfl dX1_pieces_78 ?_
              refine z_iload_n hX rfl dX1_pieces_79 ?_
              refine z_callb (z_runV hX (m_firstLine _ _ hD (by rw [a03]; exact hg) hok.1 hok.2.1 hok.2.2.1) (cwV 3 hX.ts (lw_V q1728 q1730 qs57 q71 q1731) rfl rfl rfl (by decide +kernel) (zroom (by decide) (by decide))) dX1_pieces_80 mM_0 (ci := 1) rfl rfl rfl rfl (by first | exact Nat.le_of_ble_eq_true rfl | simp [va_rf_c, Value.category]) (zhf (by omega) (by omega))) (fun r_80 μ_80 h_80 => ?_)
              obtain ⟨s4, A4, hs4, hA4, hfr, hR, rfl⟩ := h_80; subst hfr; rw [a03] at hR; rw [a03]
              refine z_if_ne_b hX dX1_pieces_83 (tgt := 89) rfl (fun h_83 => ?_) (fun h_83 => ?_)
              · obtain ⟨⟨x, y⟩, e⟩ := Option.isSome_iff_exists.mp h_83
                rw [e] at hR
                obtain ⟨⟨k27, k28⟩, hfb⟩ := hR
                have hfb' := hfb
                unfold frB at hfb'
                have hc : pcC (A 0) f z lo hi = 0 := by
                  rw [pcC, if_neg (not_not_intro hok), if_neg hnu, if_neg (by rw [e]; simp)]
                refine z_aload_n hX rfl (by first | rfl | exact va_rf_r _) dX1_pieces_89 ?_
                refine z_iconst hX dX1_pieces_90 ?_
                refine z_iload_n hX rfl dX1_pieces_91 ?_
                refine z_i2l hX (by omega) dX1_pieces_92 ?_
                refine z_lconst hX (z := 1) (by decide) dX1_pieces_93 ?_
                refine z_callv (z_runV hX (m_laysP _ _ hD (by omega) (by omega) (by omega)) (cwV 3 hX.ts (lw_V q1732 q1734 qs58 q71 q1735) rfl rfl rfl (by decide +kernel) (zroom (by decide) (by decide))) dX1_pieces_94 mM_0 (ci := 1) rfl rfl rfl rfl (by first | exact Nat.le_of_ble_eq_true rfl | simp [va_rf_c, Value.category]) (zhf (by omega) (by omega))) (fun μ_94 h_94 => ?_)
                obtain rfl := h_94; rw [k27, k28]
                refine z_iconst hX dX1_pieces_97 ?_
                refine z_istore hX (lv' := [_, _, _, _, _, _]) (Nat.le_of_ble_eq_true rfl) (by first | exact zpre_0 | exact zpre_n rfl | exact zpre_1 rfl rfl | exact zpre_1 rfl (va_rf_c _)) rfl dX1_pieces_98 ?_
                refine loop 128 1 s4 _ [(x, y, lo / (Int.gcd lo 1 : Int), 1 / (Int.gcd lo 1 : Int))] hok hc (by omega) rfl (by rw [k27, k28]; exact hfb) (by omega) (by omega) (hs03.tr hs4 (ks := kqS) (by intro k hk; simp only [List.mem_cons, List.not_mem_nil, or_false, not_or] at hk ⊢; omega)) ((hA03.tr hA4 (ks := [10, 17]) (by intro k hk; simp only [List.mem_cons, List.not_mem_nil, or_false, not_or] at hk ⊢; omega)).up2 (by simp)) ?_ ?_
                · rw [zg_s]
                  exact ⟨pcZ_at _ _ _ _ _ _, trivial⟩
                · rw [pcL, e, k27, k28]
                  rfl
              · have e : frF (A 0) f z lo = none := by
                  simpa using h_83
                have hc : pcC (A 0) f z lo hi = -1000001 := by
                  rw [pcC, if_neg (not_not_intro hok), if_neg hnu, if_pos e]
                refine z_ldc hX (z := -1000001) q1369 (by decide) dX1_pieces_86 ?_
                (try rw [← hQ])
                refine z_ireturn hX dX1_pieces_88 (by omega) (by omega) ?_
                exact ⟨s4, A4, hs03.tr hs4 (by intro k hk; simp only [List.mem_cons, List.not_mem_nil, or_false, not_or] at hk ⊢; omega), hA03.tr hA4 (by intro k hk; simp only [List.mem_cons, List.not_mem_nil, or_false, not_or] at hk ⊢; omega), Or.inl ⟨by rw [hc]; decide, hc, (hs4 11 (by decide)).trans (hs03 11 (by decide)), (hs4 12 (by decide)).trans (hs03 12 (by decide)), (hA4 10 (by decide)).trans (hA03 10 (by decide))⟩, rfl⟩
            · exact unb s3 A3 (hs.tr hs3 (ks := kcS) (by intro k hk; simp only [List.mem_cons, List.not_mem_nil, or_false, not_or] at hk ⊢; omega)) (hA.tr hA3 (ks := [17]) (by intro k hk; simp only [List.mem_cons, List.not_mem_nil, or_false, not_or] at hk ⊢; omega)) (Or.inr h_69)
        · exact bad (by simp at h_41; omega)
