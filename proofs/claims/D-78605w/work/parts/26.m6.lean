/-! MODEL 6: the best walk of a search -/
set_option maxRecDepth 100000
/-- the best so far: value above, below, edges -/
abbrev bT : Type := Option (Int × Int × List Int)
def bBetter (g up dn : Int) (p : List Int) (b : Int × Int × List Int) : Bool := decide (g * gsg (up * b.2.1 - b.1 * dn) < 0) || (decide (g * gsg (up * b.2.1 - b.1 * dn) = 0) && (decide (p.length < b.2.2.length) || (decide (p.length = b.2.2.length) && llt p b.2.2)))
def wgh (g up dn : Int) (p : List Int) : bT → bT
  | none => some (up, dn, p)
  | some b => if bBetter g up dn p b = true then some (up, dn, p) else some b
/-- the model holds the best so far -/
def bS (s : Nat → Int) (A : Nat → Int → Int) : bT → Prop
  | none => s 23 = -1000001
  | some b => s 23 = b.2.2.length ∧ b.2.2.length ≤ 8 ∧ s 24 = b.1 ∧ s 25 = b.2.1 ∧ rowIs (A 22) b.2.2 ∧ (∀ e ∈ b.2.2, 0 ≤ e ∧ e < 16) ∧ lB b.1 ∧ (0 < b.2.1 ∧ b.2.1 ≤ 1000000000000000000)
theorem rowIs_cpy {w v : Int → Int} {p1 : List Int} {e : Int} (h : rowIs v p1) (hw : w = zf v (p1.length : Int) e) : rowIs w (p1 ++ [e]) := by
  subst hw
  refine rowIs_snoc (fun i x hx => ?_) (zf_s _ _ _)
  have hi := (List.getElem?_eq_some_iff.mp hx).1
  rw [zf_n (by omega)]
  exact h i x hx
theorem m_weighs (l : Launch) (E : zE) {ν : zM} {m0 : Nat} {ad : Nat → Nat} {s : Nat → Int} {A : Nat → Int → Int} (hD : mD m0 ad) {p : List Int} (h18 : s 18 = p.length) (hl : p.length ≤ 8) (hr : rowIs (A 17) p) (hm : ∀ e ∈ p, 0 ≤ e ∧ e < 16) {b : bT} (hb : bS s A b) {up dn g : Int} (hup : lB up) (hdn : 0 < dn ∧ dn ≤ 1000000000000000000) (hg : g = 1 ∨ g = -1) : Met l yX1_weighs (ws_ yX1_weighs cX1_weighs 9 none) (zR 2 0 0) (va_Pc [.ref m0, .long (zJ up), .long (zJ dn), .int (zI g)] (zPre E (mM E ν m0 ad s A))) (zQv E (fun μ' => ∃ s' A', sag [23, 24, 25] s s' ∧ sag [22] A A' ∧ bS s' A' (wgh g up dn p b) ∧ mM E ν m0 ad s' A' = μ')) 0 0 (zA E) := by
  refine zmet (cc := cX1_weighs) [_, _, _, _, _, _, _, _, _] (by decide) (Nat.le_of_ble_eq_true rfl) rfl rfl ?_
  intro X hl hX hinit; subst hl
  have hX : zOK X _ cX1_weighs RX1 none 9 := hX
  generalize hQ : MQ _ _ _ _ _ _ _ = Q
  -- the copy's loop and the end
  have copy : ∀ (p2 p1 : List Int) (B : Int → Int), p = p1 ++ p2 → rowIs B p1 → wgh g up dn p b = some (up, dn, p) → zW X (zR 2 0 0) E (mM E ν m0 ad (zg (zg (zg s 23 (s 18)) 24 up) 25 dn) (zg A 22 B)) 0 0 Q 103 [some (.ref m0), some (.long (zJ up)), none, some (.long (zJ dn)), none, none, none, none, some (.int (zI (p1.length : Int)))] [] := by
    intro p2
    induction p2 with
    | nil =>
      intro p1 B hp hB hw
      have hpl : p.length = p1.length := by rw [hp, List.append_nil]
      have q18 : zg (zg (zg s 23 (s 18)) 24 up) 25 dn 18 = s 18 := by rw [zg_n (by decide), zg_n (by decide), zg_n (by decide)]
      refine z_iload hX rfl dX1_weighs_103 ?_
      refine z_aload_n hX rfl (by first | rfl | exact va_rf_r _) dX1_weighs_105 ?_
      refine zm_get hX 18 (by decide) q1388 dX1_weighs_106 rfl rfl ?_
      refine z_icmp_ge hX (by omega) (by omega) dX1_weighs_109 (tgt := 132) rfl (fun h_109 => ?_) (fun h_109 => ?_)
      · (try rw [← hQ])
        refine z_return hX dX1_weighs_132 (by omega) (by omega) ?_
        refine ⟨_, _, ?_, ?_, ?_, rfl⟩
        · exact ((sag.up (by simp)).up2 (by simp)).up2 (by simp)
        · exact sag.up (by simp)
        · rw [hw]
          refine ⟨by rw [zg_n (by decide), zg_n (by decide), zg_s, h18], hl, by rw [zg_n (by decide), zg_s], by rw [zg_s], by rw [zg_s, hp, List.append_nil]; exact hB, hm, hup, hdn⟩
      · exact absurd h_109 (by omega)
    | cons e p2 ih =>
      intro p1 B hp hB hw
      have hpl : p.length = p1.length + p2.length + 1 := by rw [hp]; simp; omega
      have h17 : A 17 (p1.length : Int) = e := rowIs_mid (by rw [← hp]; exact hr)
      have q18 : zg (zg (zg s 23 (s 18)) 24 up) 25 dn 18 = s 18 := by rw [zg_n (by decide), zg_n (by decide), zg_n (by decide)]
      refine z_iload hX rfl dX1_weighs_103 ?_
      refine z_aload_n hX rfl (by first | rfl | exact va_rf_r _) dX1_weighs_105 ?_
      refine zm_get hX 18 (by decide) q1388 dX1_weighs_106 rfl rfl ?_
      refine z_icmp_ge hX (by omega) (by omega) dX1_weighs_109 (tgt := 132) rfl (fun h_109 => ?_) (fun h_109 => ?_)
      · exact absurd h_109 (by omega)
      · refine z_aload_n hX rfl (by first | rfl | exact va_rf_r _) dX1_weighs_112 ?_
        refine zm_get hX 22 (by decide) q1392 dX1_weighs_113 rfl rfl ?_
        refine z_iload hX rfl dX1_weighs_116 ?_
        refine z_aload_n hX rfl (by first | rfl | exact va_rf_r _) dX1_weighs_118 ?_
        refine zm_get hX 17 (by decide) q1387 dX1_weighs_119 rfl rfl ?_
        refine z_iload hX rfl dX1_weighs_122 ?_
        refine zm_iaload hX hD 17 (by decide) (by decide) 8 rfl dX1_weighs_124 (by omega) ?_
        refine zm_iastore hX hD 22 (by decide) (by decide) 8 rfl dX1_weighs_125 (by omega) ?_
        refine z_iinc hX (lv' := [_, _, _, _, _, _, _, _, _]) rfl (Nat.le_of_ble_eq_true rfl) (by first | exact zpre_0 | exact zpre_n rfl | exact zpre_1 rfl rfl | exact zpre_1 rfl (va_rf_c _)) rfl dX1_weighs_126 ?_
        refine z_goto hX (tgt := 103) dX1_weighs_129 rfl ?_
        rw [zg_zg, zg_s, zg_n (show (17 : Nat) ≠ 22 by decide), h17]
        have h := ih (p1 ++ [e]) (zf B (p1.length : Int) e) (by rw [hp]; simp) (rowIs_cpy hB rfl) hw
        rw [List.length_append, List.length_singleton, show ((p1.length + 1 : Nat) : Int) = (p1.length : Int) + 1 from rfl] at h
        exact h
  have fin : ∀ (r : Bool) (by0 : Int), (r = true → wgh g up dn p b = some (up, dn, p)) → (r = false → wgh g up dn p b = b) → ∀ y1, zW X (zR 2 0 0) E (mM E ν m0 ad s A) 0 0 Q 75 [some (.ref m0), some (.long (zJ up)), none, some (.long (zJ dn)), none, y1, some (.int (zI by0)), none, none] [.int (zI (zb r))] := by
    intro r by0 h1 h2 y1
    refine zW.mask [true, true, true, true, true, false, true, true, false] (lv' := [_, _, _, _, _, none, _, _, none]) rfl ?_
    refine z_istore hX (lv' := [_, _, _, _, _, _, _, _, _]) (Nat.le_of_ble_eq_true rfl) (by first | exact zpre_0 | exact zpre_n rfl | exact zpre_1 rfl rfl | exact zpre_1 rfl (va_rf_c _)) rfl dX1_weighs_75 ?_
    refine z_iload hX rfl dX1_weighs_77 ?_
    refine z_if_eq_b hX dX1_weighs_79 (tgt := 132) rfl (fun h_79 => ?_) (fun h_79 => ?_)
    · (try rw [← hQ])
      refine z_return hX dX1_weighs_132 (by omega) (by omega) ?_
      exact ⟨s, A, sag.rf, sag.rf, by rw [h2 h_79]; exact hb, rfl⟩
    · refine zW.mask [true, true, true, true, true, false, false, false, false] (lv' := [_, _, _, _, _, none, none, none, none]) rfl ?_
      refine z_aload_n hX rfl (by first | rfl | exact va_rf_r _) dX1_weighs_82 ?_
      refine z_aload_n hX rfl (by first | rfl | exact va_rf_r _) dX1_weighs_83 ?_
      refine zm_get hX 18 (by decide) q1388 dX1_weighs_84 rfl rfl ?_
      refine zm_puti hX hD 23 (by decide) q1393 dX1_weighs_87 rfl mset_23 ?_
      refine z_aload_n hX rfl (by first | rfl | exact va_rf_r _) dX1_weighs_90 ?_
      refine z_lload_n hX rfl dX1_weighs_91 ?_
      refine zm_putl hX hD 24 (by decide) q1394 dX1_weighs_92 rfl mset_24 ?_
      refine z_aload_n hX rfl (by first | rfl | exact va_rf_r _) dX1_weighs_95 ?_
      refine z_lload_n hX rfl dX1_weighs_96 ?_
      refine zm_putl hX hD 25 (by decide) q1395 dX1_weighs_97 rfl mset_25 ?_
      refine z_iconst hX dX1_weighs_100 ?_
      refine z_istore hX (lv' := [_, _, _, _, _, _, _, _, _]) (Nat.le_of_ble_eq_true rfl) (by first | exact zpre_0 | exact zpre_n rfl | exact zpre_1 rfl rfl | exact zpre_1 rfl (va_rf_c _)) rfl dX1_weighs_101 ?_
      have h := copy p [] (A 22) rfl (fun i e h => by simp at h) (h1 h_79)
      rw [zg_id] at h
      exact h
  cases b with
  | none =>
    have h23 : s 23 = -1000001 := hb
    refine z_aload_n hX rfl (by first | rfl | exact va_rf_r _) dX1_weighs_0 ?_
    refine zm_get hX 23 (by decide) q1393 dX1_weighs_1 rfl rfl ?_
    refine z_ldc hX (z := -1000001) q1369 (by decide) dX1_weighs_4 ?_
    refine z_icmp_ne hX (by omega) (by omega) dX1_weighs_6 (tgt := 13) rfl (fun h_6 => ?_) (fun h_6 => ?_)
    · exact absurd h23 h_6
    · refine z_iconst hX dX1_weighs_9 ?_
      refine z_goto hX (tgt := 29) dX1_weighs_10 rfl ?_
      refine z_istore hX (lv' := [_, _, _, _, _, _, _, _, _]) (Nat.le_of_ble_eq_true rfl) (by first | exact zpre_0 | exact zpre_n rfl | exact zpre_1 rfl rfl | exact zpre_1 rfl (va_rf_c _)) rfl dX1_weighs_29 ?_
      refine z_iload hX rfl dX1_weighs_31 ?_
      refine z_if_lt hX (by omega) dX1_weighs_33 (tgt := 70) rfl (fun h_33 => ?_) (fun h_33 => ?_)
      · refine z_iconst hX dX1_weighs_70 ?_
        refine z_goto hX (tgt := 75) dX1_weighs_71 rfl ?_
        exact fin true (-1) (fun _ => rfl) (fun q => by cases q) _
      · exact absurd h_33 (by decide)
  | some bb =>
    obtain ⟨bu, bd, q⟩ := bb
    obtain ⟨k1, k2, k3, k4, k5, k6, k7, k8⟩ := hb
    simp only at k1 k2 k3 k4 k5 k6 k7 k8
    have kg := gsg_r (up * bd - bu * dn)
    have kb : g * gsg (up * bd - bu * dn) ≤ 1 ∧ -1 ≤ g * gsg (up * bd - bu * dn) := by
      rcases hg with e | e <;> rw [e] <;> omega
    have hbt : bBetter g up dn p (bu, bd, q) = true ↔ (g * gsg (up * bd - bu * dn) < 0 ∨ (g * gsg (up * bd - bu * dn) = 0 ∧ (p.length < q.length ∨ (p.length = q.length ∧ llt p q = true)))) := by
      simp [bBetter]
    have tr : (g * gsg (up * bd - bu * dn) < 0 ∨ (g * gsg (up * bd - bu * dn) = 0 ∧ (p.length < q.length ∨ (p.length = q.length ∧ llt p q = true)))) → ∀ y1, zW X (zR 2 0 0) E (mM E ν m0 ad s A) 0 0 Q 70 [some (.ref m0), some (.long (zJ up)), none, some (.long (zJ dn)), none, y1, some (.int (zI (g * gsg (up * bd - bu * dn)))), none, none] [] := by
      intro h y1
      refine z_iconst hX dX1_weighs_70 ?_
      refine z_goto hX (tgt := 75) dX1_weighs_71 rfl ?_
      exact fin true _ (fun _ => by rw [wgh, if_pos (hbt.mpr h)]) (fun q => by cases q) _
    have fl : ¬ (g * gsg (up * bd - bu * dn) < 0 ∨ (g * gsg (up * bd - bu * dn) = 0 ∧ (p.length < q.length ∨ (p.length = q.length ∧ llt p q = true)))) → ∀ y1, zW X (zR 2 0 0) E (mM E ν m0 ad s A) 0 0 Q 74 [some (.ref m0), some (.long (zJ up)), none, some (.long (zJ dn)), none, y1, some (.int (zI (g * gsg (up * bd - bu * dn)))), none, none] [] := by
      intro h y1
      refine z_iconst hX dX1_weighs_74 ?_
      exact fin false _ (fun q => by cases q) (fun _ => by rw [wgh, if_neg (fun r => h (hbt.mp r))]) _
    refine z_aload_n hX rfl (by first | rfl | exact va_rf_r _) dX1_weighs_0 ?_
    refine zm_get hX 23 (by decide) q1393 dX1_weighs_1 rfl rfl ?_
    refine z_ldc hX (z := -1000001) q1369 (by decide) dX1_weighs_4 ?_
    refine z_icmp_ne hX (by omega) (by omega) dX1_weighs_6 (tgt := 13) rfl (fun h_6 => ?_) (fun h_6 => ?_)
    · refine z_iload hX rfl dX1_weighs_13 ?_
      refine z_lload_n hX rfl dX1_weighs_15 ?_
      refine z_lload_n hX rfl dX1_weighs_16 ?_
      refine z_aload_n hX rfl (by first | rfl | exact va_rf_r _) dX1_weighs_17 ?_
      refine zm_get hX 24 (by decide) q1394 dX1_weighs_18 rfl rfl ?_
      refine z_aload_n hX rfl (by first | rfl | exact va_rf_r _) dX1_weighs_21 ?_
      refine zm_get hX 25 (by decide) q1395 dX1_weighs_22 rfl rfl ?_
      refine z_calli (z_runS hX (m_compares _ _ _ hup hdn (c := s 24) (d := s 25) (by rw [k3]; exact k7) (by rw [k4]; exact k8)) (va_cwS 4 hX.ts (lw_S q1627 q1628 q71 q1629) rfl rfl rfl (by decide +kernel) (zroom (by decide) (by decide))) dX1_weighs_25 rfl rfl rfl (by first | exact Nat.le_of_ble_eq_true rfl | simp [va_rf_c, Value.category]) (zhf (by omega) (by omega))) (fun r_25 μ_25 h_25 => ?_)
      obtain ⟨rfl, rfl⟩ := h_25; rw [k3, k4]
      refine z_imul hX dX1_weighs_28 ?_
      refine z_istore hX (lv' := [_, _, _, _, _, _, _, _, _]) (Nat.le_of_ble_eq_true rfl) (by first | exact zpre_0 | exact zpre_n rfl | exact zpre_1 rfl rfl | exact zpre_1 rfl (va_rf_c _)) rfl dX1_weighs_29 ?_
      refine z_iload hX rfl dX1_weighs_31 ?_
      refine z_if_lt hX (by omega) dX1_weighs_33 (tgt := 70) rfl (fun h_33 => ?_) (fun h_33 => ?_)
      · exact tr (Or.inl h_33) _
      · refine z_iload hX rfl dX1_weighs_36 ?_
        refine z_if_ne hX (by omega) dX1_weighs_38 (tgt := 74) rfl (fun h_38 => ?_) (fun h_38 => ?_)
        · exact fl (by omega) _
        · refine z_aload_n hX rfl (by first | rfl | exact va_rf_r _) dX1_weighs_41 ?_
          refine zm_get hX 18 (by decide) q1388 dX1_weighs_42 rfl rfl ?_
          refine z_aload_n hX rfl (by first | rfl | exact va_rf_r _) dX1_weighs_45 ?_
          refine zm_get hX 23 (by decide) q1393 dX1_weighs_46 rfl rfl ?_
          refine z_icmp_lt hX (by omega) (by omega) dX1_weighs_49 (tgt := 70) rfl (fun h_49 => ?_) (fun h_49 => ?_)
          · exact tr (Or.inr ⟨h_38, Or.inl (by omega)⟩) _
          · refine z_aload_n hX rfl (by first | rfl | exact va_rf_r _) dX1_weighs_52 ?_
            refine zm_get hX 18 (by decide) q1388 dX1_weighs_53 rfl rfl ?_
            refine z_aload_n hX rfl (by first | rfl | exact va_rf_r _) dX1_weighs_56 ?_
            refine zm_get hX 23 (by decide) q1393 dX1_weighs_57 rfl rfl ?_
            refine z_icmp_ne hX (by omega) (by omega) dX1_weighs_60 (tgt := 74) rfl (fun h_60 => ?_) (fun h_60 => ?_)
            · exact fl (by omega) _
            · refine z_aload_n hX rfl (by first | rfl | exact va_rf_r _) dX1_weighs_63 ?_
              refine z_callb (z_runV hX (m_isBeforeBest _ _ hD h18 hl (by omega) hr k5 hm k6) (cwV 0 hX.ts (lw_V q1633 q1635 qs49 q71 q1636) rfl rfl rfl (by decide +kernel) (zroom (by decide) (by decide))) dX1_weighs_64 mM_0 (ci := 1) rfl rfl rfl rfl (by first | exact Nat.le_of_ble_eq_true rfl | simp [va_rf_c, Value.category]) (zhf (by omega) (by omega))) (fun r_64 μ_64 h_64 => ?_)
              obtain ⟨rfl, rfl⟩ := h_64
              refine z_if_eq_b hX dX1_weighs_67 (tgt := 74) rfl (fun h_67 => ?_) (fun h_67 => ?_)
              · exact fl (by intro r; rcases r with r | ⟨_, r | ⟨_, r⟩⟩; omega; omega; rw [h_67] at r; cases r) _
              · exact tr (Or.inr ⟨h_38, Or.inr ⟨by omega, h_67⟩⟩) _
    · exact absurd (k1.symm.trans h_6) (by omega)
