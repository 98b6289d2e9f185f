/-! MODEL 21: a text's fault, a text is loaded -/
set_option maxRecDepth 100000
def rdL (L : Int) (Y : Int → Int) : Nat → Int → pSt → (Int → Int) → Int × pSt × (Int → Int)
  | 0, k, q, F => (k, q, F)
  | n + 1, k, q, F => if q.2 = -1000001 ∧ q.1 < L then (if k = 16 then (k, pFa q q.1, F) else rdL L Y n (k + 1) (rdF L Y q).2 (rdW F k (rdF L Y q).1)) else (k, q, F)
def ldR (L : Int) (Y F : Int → Int) : Int × pSt × (Int → Int) := rdL L Y 17 0 (pBl L Y (0, -1000001)) F
theorem rdF_v {L : Int} {Y : Int → Int} {q : pSt} (hL : L ≤ 150) (h : qV L q) : qV L (rdF L Y q).2 :=
  eMu_v hL (eRt_v hL (eSl_v hL (eTm_v hL (pNuS_v hL (pTkS_v (pOnS_v hL (pOnS_v hL h (by omega)) (by omega)) (by omega)))))) (by omega)
theorem rdL_v {L : Int} {Y : Int → Int} (hL : L ≤ 150) : ∀ (n : Nat) (k : Int) (q : pSt) (F : Int → Int), qV L q → 0 ≤ k → k ≤ 16 → (0 ≤ (rdL L Y n k q F).1 ∧ (rdL L Y n k q F).1 ≤ 16) ∧ qV L (rdL L Y n k q F).2.1
  | 0, k, q, F, h, h0, h1 => ⟨⟨h0, h1⟩, h⟩
  | n + 1, k, q, F, h, h0, h1 => by
    have hq := h.1
    rw [rdL]
    split
    · split
      · exact ⟨⟨h0, h1⟩, pFa_v h (by omega)⟩
      · exact rdL_v hL n (k + 1) _ _ (rdF_v hL h) (by omega) (by omega)
    · exact ⟨⟨h0, h1⟩, h⟩
theorem ldR_v {L : Int} {Y F : Int → Int} (hL : 0 ≤ L ∧ L ≤ 150) : (0 ≤ (ldR L Y F).1 ∧ (ldR L Y F).1 ≤ 16) ∧ qV L (ldR L Y F).2.1 :=
  rdL_v hL.2 17 0 _ F (pBl_v ⟨⟨Int.le_refl _, hL.1⟩, Or.inl rfl⟩) (by omega) (by omega)
/-- the numbers when a text has been read -/
def ldS (s : Nat → Int) (R : Int × pSt × (Int → Int)) : Nat → Int := zg (pW s R.2.1) 14 R.1
theorem m_fault (l : Launch) (E : zE) {ν : zM} {m0 : Nat} {ad : Nat → Nat} {s : Nat → Int} {A : Nat → Int → Int} (hD : mD m0 ad) (ht : tV (s 5) (A 4)) : Met l yX1_fault (ws_ yX1_fault cX1_fault 1 (some .int)) (zR 4 0 0) (va_Pc [.ref m0] (zPre E (mM E ν m0 ad s A))) (zQi E (fun r μ' => mM E ν m0 ad (ldS s (ldR (s 5) (A 4) (A 13))) (zg A 13 (ldR (s 5) (A 4) (A 13)).2.2) = μ' ∧ (ldR (s 5) (A 4) (A 13)).2.1.2 = r)) 0 0 (zA E) := by
  have hL := ht.1
  refine zmet (cc := cX1_fault) [_] (by decide) (Nat.le_of_ble_eq_true rfl) rfl rfl ?_
  intro X hl hX hinit; subst hl
  have hX : zOK X _ cX1_fault RX1 (some .int) 1 := hX
  generalize hQ : MQ _ _ _ _ _ _ _ = Q
  have hT : ∀ (k : Int) (q : pSt) (F : Int → Int), qV (s 5) q → mTxt (zg (pW s q) 14 k) (zg A 13 F) (s 5) (A 4) q := fun k q F hq => ⟨⟨(zg_n (by decide)).trans (pW_n (by decide) (by decide)), zg_n (by decide), rfl, rfl⟩, ht, hq⟩
  have loop : ∀ (n : Nat) (k : Int) (q : pSt) (F : Int → Int), qV (s 5) q → 0 ≤ k → k ≤ 16 → 17 ≤ k + n → rdL (s 5) (A 4) n k q F = ldR (s 5) (A 4) (A 13) → zW X (zR 4 0 0) E (mM E ν m0 ad (zg (pW s q) 14 k) (zg A 13 F)) 0 0 Q 20 [some (.ref m0)] [] := by
    have out : ∀ (k : Int) (q : pSt) (F : Int → Int), (k, q, F) = ldR (s 5) (A 4) (A 13) → zW X (zR 4 0 0) E (mM E ν m0 ad (zg (pW s q) 14 k) (zg A 13 F)) 0 0 Q 47 [some (.ref m0)] [] := by
      intro k q F he
      refine z_aload_n hX rfl (by first | rfl | exact va_rf_r _) dX1_fault_47 ?_
      refine zm_get hX 16 (by decide) q1386 dX1_fault_48 rfl rfl ?_
      (try rw [← hQ])
      refine z_ireturn hX dX1_fault_51 (by omega) (by omega) ?_
      rw [← he]
      exact ⟨rfl, rfl⟩
    intro n
    induction n with
    | zero => intros; exfalso; omega
    | succ n ih =>
      intro k q F hq h0 h1 hk he
      have hT0 := hT k q F hq
      have e16 : zg (pW s q) 14 k 16 = q.2 := rfl
      have e15 : zg (pW s q) 14 k 15 = q.1 := rfl
      have e5 : zg (pW s q) 14 k 5 = s 5 := hT0.1.1
      have hq1 := hq.1
      have hq2 := hq.2
      rw [rdL] at he
      refine z_aload_n hX rfl (by first | rfl | exact va_rf_r _) dX1_fault_20 ?_
      refine zm_get hX 16 (by decide) q1386 dX1_fault_21 rfl rfl ?_
      refine z_ldc hX (z := -1000001) q1369 (by decide) dX1_fault_24 ?_
      refine z_icmp_ne hX (by omega) (by omega) dX1_fault_26 (tgt := 47) rfl (fun h_26 => ?_) (fun h_26 => ?_)
      · rw [if_neg (fun hh => h_26 (e16.trans hh.1))] at he
        exact out _ _ _ he
      · refine z_aload_n hX rfl (by first | rfl | exact va_rf_r _) dX1_fault_29 ?_
        refine zm_get hX 15 (by decide) q1385 dX1_fault_30 rfl rfl ?_
        refine z_aload_n hX rfl (by first | rfl | exact va_rf_r _) dX1_fault_33 ?_
        refine zm_get hX 5 (by decide) q1375 dX1_fault_34 rfl rfl ?_
        refine z_icmp_ge hX (by omega) (by omega) dX1_fault_37 (tgt := 47) rfl (fun h_37 => ?_) (fun h_37 => ?_)
        · rw [if_neg (by omega)] at he
          exact out _ _ _ he
        · rw [if_pos (by omega)] at he
          refine z_aload_n hX rfl (by first | rfl | exact va_rf_r _) dX1_fault_40 ?_
          refine z_callv (z_runV hX (m_readsEdge _ _ hD hT0 (k := k) rfl ⟨h0, h1⟩) (cwV 0 hX.ts (lw_V q1568 q1570 qs37 q71 q1571) rfl rfl rfl (by decide +kernel) (zroom (by decide) (by decide))) dX1_fault_41 mM_0 (ci := 1) rfl rfl rfl rfl (by first | exact Nat.le_of_ble_eq_true rfl | simp [va_rf_c, Value.category]) (zhf (by omega) (by omega))) (fun μ_41 h_41 => ?_)
          obtain rfl := h_41
          refine z_goto hX (tgt := 20) dX1_fault_44 rfl ?_
          by_cases h16 : k = 16
          · rw [if_pos h16] at he
            rw [if_pos h16, ← pW_zg (by decide) (by decide), pW_pW]
            have hv : qV (s 5) (pFa q q.1) := pFa_v hq (by omega)
            have e16' : zg (pW s (pFa q q.1)) 14 k 16 = (pFa q q.1).2 := rfl
            have e2 : (pFa q q.1).2 = q.1 := by rw [pFa, if_pos (by omega)]
            refine z_aload_n hX rfl (by first | rfl | exact va_rf_r _) dX1_fault_20 ?_
            refine zm_get hX 16 (by decide) q1386 dX1_fault_21 rfl rfl ?_
            refine z_ldc hX (z := -1000001) q1369 (by decide) dX1_fault_24 ?_
            refine z_icmp_ne hX (by omega) (by omega) dX1_fault_26 (tgt := 47) rfl (fun h_26 => ?_) (fun h_26 => ?_)
            · exact out _ _ _ he
            · exact absurd (e16'.symm.trans h_26) (by omega)
          · rw [if_neg h16] at he
            rw [if_neg h16, ← pW_zg (by decide) (by decide), pW_pW, zg_zg, zg_zg, zg_s]
            exact ih (k + 1) _ _ (rdF_v hL.2 hq) (by omega) (by omega) (by omega) he
  have e0 : ∀ s1 : Nat → Int, zg (zg (zg s1 15 0) 14 0) 16 (-1000001) = zg (pW s1 (0, -1000001)) 14 0 := by
    intro s1
    funext j
    simp only [pW, zg]
    split
    · rename_i h; rw [if_neg (by omega)]
    · rfl
  have hq0 : qV (s 5) (0, -1000001) := ⟨⟨Int.le_refl _, hL.1⟩, Or.inl rfl⟩
  refine z_aload_n hX rfl (by first | rfl | exact va_rf_r _) dX1_fault_0 ?_
  refine z_iconst hX dX1_fault_1 ?_
  refine zm_puti hX hD 15 (by decide) q1385 dX1_fault_2 rfl mset_15 ?_
  refine z_aload_n hX rfl (by first | rfl | exact va_rf_r _) dX1_fault_5 ?_
  refine z_iconst hX dX1_fault_6 ?_
  refine zm_puti hX hD 14 (by decide) q1384 dX1_fault_7 rfl mset_14 ?_
  refine z_aload_n hX rfl (by first | rfl | exact va_rf_r _) dX1_fault_10 ?_
  refine z_ldc hX (z := -1000001) q1369 (by decide) dX1_fault_11 ?_
  refine zm_puti hX hD 16 (by decide) q1386 dX1_fault_13 rfl mset_16 ?_
  rw [e0]
  have eA : zg A 13 (A 13) = A := zg_id _ _
  have hT1 := hT 0 (0, -1000001) (A 13) hq0
  rw [eA] at hT1
  refine z_aload_n hX rfl (by first | rfl | exact va_rf_r _) dX1_fault_16 ?_
  refine z_callv (z_runV hX (m_blanks _ _ hD hT1.1.1 hT1.1.2.1 hT1.1.2.2.1 hT1.1.2.2.2 ht hq0) (cwV 0 hX.ts (lw_V q1560 q1562 qs35 q71 q1563) rfl rfl rfl (by decide +kernel) (zroom (by decide) (by decide))) dX1_fault_17 mM_0 (ci := 1) rfl rfl rfl rfl (by first | exact Nat.le_of_ble_eq_true rfl | simp [va_rf_c, Value.category]) (zhf (by omega) (by omega))) (fun μ_17 h_17 => ?_)
  obtain rfl := h_17
  rw [← pW_zg (by decide) (by decide), pW_pW]
  have h := loop 17 0 (pBl (s 5) (A 4) (0, -1000001)) (A 13) (pBl_v hq0) (by omega) (by omega) (by omega) rfl
  rw [eA] at h
  exact h
/-- load -/
def sp_loadR (s : Nat → Int) (A : Nat → Int → Int) (R : Int × pSt × (Int → Int)) : mS :=
  if R.2.1.2 = -1000001 then
    (R.1, zg (kS (ldS s R)) 5 0, zg (zg (zg A 13 R.2.2) 1 (kpast (ldS s R) (zg A 13 R.2.2))) 0 (fun j => if j = 112 then R.1 else if 0 ≤ j ∧ j < 7 * R.1 then R.2.2 j else A 0 j))
  else (-1000003, ldS s R, zg A 13 R.2.2)
def sp_load (s : Nat → Int) (A : Nat → Int → Int) : mS := sp_loadR s A (ldR (s 5) (A 4) (A 13))
theorem m_load (l : Launch) (E : zE) {ν : zM} {m0 : Nat} {ad : Nat → Nat} {s : Nat → Int} {A : Nat → Int → Int} (hD : mD m0 ad) (ht : tV (s 5) (A 4)) (hu : 0 ≤ s 2 ∧ s 2 ≤ 12) : Met l yX1_load (ws_ yX1_load cX1_load 2 (some .int)) (zR 5 0 0) (va_Pc [.ref m0] (zPre E (mM E ν m0 ad s A))) (zQi E (mP E ν m0 ad (sp_load s A))) 0 0 (zA E) := by
  have hL := ht.1
  have hR := ldR_v (L := s 5) (Y := A 4) (F := A 13) hL
  refine zmet (cc := cX1_load) [_, _] (by decide) (Nat.le_of_ble_eq_true rfl) rfl rfl ?_
  intro X hl hX hinit; subst hl
  have hX : zOK X _ cX1_load RX1 (some .int) 2 := hX
  generalize hQ : MQ _ _ _ _ _ _ _ = Q
  unfold sp_load at hQ
  refine z_aload_n hX rfl (by first | rfl | exact va_rf_r _) dX1_load_0 ?_
  refine z_calli (z_runV hX (m_fault _ _ hD ht) (cwV 0 hX.ts (lw_V q1594 q1557 q1558 q71 q1559) rfl rfl rfl (by decide +kernel) (zroom (by decide) (by decide))) dX1_load_1 mM_0 (ci := 1) rfl rfl rfl rfl (by first | exact Nat.le_of_ble_eq_true rfl | simp [va_rf_c, Value.category]) (zhf (by omega) (by omega))) (fun r_1 μ_1 h_1 => ?_)
  obtain ⟨rfl, rfl⟩ := h_1; generalize ldR (s 5) (A 4) (A 13) = R at hQ hR ⊢; obtain ⟨⟨hR0, hR1⟩, hR2, hR3⟩ := hR
  refine z_ldc hX (z := -1000001) q1369 (by decide) dX1_load_4 ?_
  refine z_icmp_eq hX (by omega) (by omega) dX1_load_6 (tgt := 12) rfl (fun h_6 => ?_) (fun h_6 => ?_)
  · have hok : R.2.1.2 = -1000001 := h_6
    have e2 : ldS s R 2 = s 2 := (zg_n (by decide)).trans (pW_n (by decide) (by decide))
    have e14 : kS (ldS s R) 14 = R.1 := (zg_n (by decide)).trans (zg_s _ _ _)
    have e0 : ∀ G, zg (zg A 13 R.2.2) 1 G 0 = A 0 := fun G => (zg_n (by decide)).trans (zg_n (by decide))
    have e13 : ∀ G, zg (zg A 13 R.2.2) 1 G 13 = R.2.2 := fun G => (zg_n (by decide)).trans (zg_s _ _ _)
    have hkS : zg (ldS s R) 2 ((if ldS s R 2 = 12 then 11 else ldS s R 2) + 1) = kS (ldS s R) := rfl
    have hsp : sp_loadR s A R = (R.1, zg (kS (ldS s R)) 5 0, zg (zg (zg A 13 R.2.2) 1 (kpast (ldS s R) (zg A 13 R.2.2))) 0 (fun j => if j = 112 then R.1 else if 0 ≤ j ∧ j < 7 * R.1 then R.2.2 j else A 0 j)) := by rw [sp_loadR, if_pos hok]
    have e0' := e0 (kpast (ldS s R) (zg A 13 R.2.2))
    have e13' := e13 (kpast (ldS s R) (zg A 13 R.2.2))
    refine z_aload_n hX rfl (by first | rfl | exact va_rf_r _) dX1_load_12 ?_
    refine z_callv (z_runV hX (m_keeps _ _ hD (by rw [e2]; exact hu)) (cwV 0 hX.ts (lw_V q1513 q1515 qs32 q71 q1516) rfl rfl rfl (by decide +kernel) (zroom (by decide) (by decide))) dX1_load_13 mM_0 (ci := 1) rfl rfl rfl rfl (by first | exact Nat.le_of_ble_eq_true rfl | simp [va_rf_c, Value.category]) (zhf (by omega) (by omega))) (fun μ_13 h_13 => ?_)
    obtain rfl := h_13; rw [hkS]
    refine z_iconst hX dX1_load_16 ?_
    refine z_istore_n hX (lv' := [_, _]) (Nat.le_of_ble_eq_true rfl) (by first | exact zpre_0 | exact zpre_n rfl | exact zpre_1 rfl rfl | exact zpre_1 rfl (va_rf_c _)) rfl dX1_load_17 ?_
    generalize kS (ldS s R) = S2 at hsp e14 ⊢
    generalize zg (zg A 13 R.2.2) 1 (kpast (ldS s R) (zg A 13 R.2.2)) = A2 at hsp e0' e13' ⊢
    have loop : ∀ (n : Nat) (i : Int), 0 ≤ i → i ≤ 7 * R.1 → 7 * R.1 < i + n → zW X (zR 5 0 0) E (mM E ν m0 ad S2 (zg A2 0 (fun j => if 0 ≤ j ∧ j < i then R.2.2 j else A 0 j))) 0 0 Q 18 [some (.ref m0), some (.int (zI i))] [] := by
      intro n
      induction n with
      | zero => intros; exfalso; omega
      | succ n ih =>
        intro i h0 h1 hn
        have k13 : ∀ G : Int → Int, zg A2 0 G 13 = R.2.2 := fun G => (zg_n (by decide)).trans e13'
        refine z_iload_n hX rfl dX1_load_18 ?_
        refine z_bipush hX (by decide) dX1_load_19 ?_
        refine z_aload_n hX rfl (by first | rfl | exact va_rf_r _) dX1_load_21 ?_
        refine zm_get hX 14 (by decide) q1384 dX1_load_22 rfl rfl ?_
        refine z_imul hX dX1_load_25 ?_
        refine z_icmp_ge hX (by omega) (by omega) dX1_load_26 (tgt := 47) rfl (fun h_26 => ?_) (fun h_26 => ?_)
        · obtain rfl : i = 7 * R.1 := by omega
          refine z_aload_n hX rfl (by first | rfl | exact va_rf_r _) dX1_load_47 ?_
          refine zm_get hX 0 (by decide) q1370 dX1_load_48 rfl rfl ?_
          refine z_bipush hX (by decide) dX1_load_51 ?_
          refine z_aload_n hX rfl (by first | rfl | exact va_rf_r _) dX1_load_53 ?_
          refine zm_get hX 14 (by decide) q1384 dX1_load_54 rfl rfl ?_
          refine zm_iastore hX hD 0 (by decide) (by decide) 113 rfl dX1_load_57 (by omega) ?_
          refine z_aload_n hX rfl (by first | rfl | exact va_rf_r _) dX1_load_58 ?_
          refine z_iconst hX dX1_load_59 ?_
          refine zm_puti hX hD 5 (by decide) q1375 dX1_load_60 rfl mset_5 ?_
          refine z_aload_n hX rfl (by first | rfl | exact va_rf_r _) dX1_load_63 ?_
          refine zm_get hX 14 (by decide) q1384 dX1_load_64 rfl rfl ?_
          (try rw [← hQ])
          refine z_ireturn hX dX1_load_67 (by omega) (by omega) ?_
          rw [zg_zg, zg_s, e14]
          refine mP_i ?_
          have e514 : zg S2 5 0 14 = R.1 := (zg_n (by decide)).trans e14
          have e3 : (fun j => if j = 112 then R.1 else if 0 ≤ j ∧ j < 7 * R.1 then R.2.2 j else A 0 j) = zf (fun j => if 0 ≤ j ∧ j < 7 * R.1 then R.2.2 j else A 0 j) 112 R.1 := rfl
          rw [hsp, e514, e3]
        · refine z_aload_n hX rfl (by first | rfl | exact va_rf_r _) dX1_load_29 ?_
          refine zm_get hX 0 (by decide) q1370 dX1_load_30 rfl rfl ?_
          refine z_iload_n hX rfl dX1_load_33 ?_
          refine z_aload_n hX rfl (by first | rfl | exact va_rf_r _) dX1_load_34 ?_
          refine zm_get hX 13 (by decide) q1383 dX1_load_35 rfl rfl ?_
          refine z_iload_n hX rfl dX1_load_38 ?_
          refine zm_iaload hX hD 13 (by decide) (by decide) 112 rfl dX1_load_39 (by omega) ?_
          refine zm_iastore hX hD 0 (by decide) (by decide) 113 rfl dX1_load_40 (by omega) ?_
          refine z_iinc hX (lv' := [_, _]) rfl (Nat.le_of_ble_eq_true rfl) (by first | exact zpre_0 | exact zpre_n rfl | exact zpre_1 rfl rfl | exact zpre_1 rfl (va_rf_c _)) rfl dX1_load_41 ?_
          refine z_goto hX (tgt := 18) dX1_load_44 rfl ?_
          rw [zg_zg, zg_s, k13]
          have h := ih (i + 1) (by omega) (by omega) (by omega)
          have e : (fun j => if 0 ≤ j ∧ j < i + 1 then R.2.2 j else A 0 j) = zf (fun j => if 0 ≤ j ∧ j < i then R.2.2 j else A 0 j) i (R.2.2 i) := by
            funext j
            simp only [zf]
            by_cases q : j = i
            · subst q
              rw [if_pos (by omega), if_pos rfl]
            · rw [if_neg q]
              by_cases q2 : 0 ≤ j ∧ j < i
              · rw [if_pos q2, if_pos (by omega)]
              · rw [if_neg q2, if_neg (by omega)]
          rw [e] at h
          exact h
    have h := loop 113 0 (by omega) (by omega) (by omega)
    have e : (fun j => if 0 ≤ j ∧ j < (0 : Int) then R.2.2 j else A 0 j) = A2 0 := by
      funext j
      rw [if_neg (by omega), e0']
    rw [e, zg_id] at h
    exact h
  · refine z_ldc hX (z := -1000003) q1492 (by decide) dX1_load_9 ?_
    (try rw [← hQ])
    refine z_ireturn hX dX1_load_11 (by omega) (by omega) ?_
    exact mP_i (by rw [sp_loadR, if_neg h_6])
