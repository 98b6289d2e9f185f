/-! MODEL 2: graph, history, texts, marks: what each call answers and leaves (sp_.. are its plain words) -/
set_option maxRecDepth 100000
abbrev iR (v : Int) : Prop := -2147483648 ≤ v ∧ v ≤ 2147483647
abbrev lR (v : Int) : Prop := -9223372036854775808 ≤ v ∧ v ≤ 9223372036854775807
abbrev mS : Type := Int × (Nat → Int) × (Nat → Int → Int)
def mP (E : zE) (ν : zM) (m0 : Nat) (ad : Nat → Nat) (t : mS) : Int → zM → Prop := fun r μ' => mM E ν m0 ad t.2.1 t.2.2 = μ' ∧ t.1 = r
theorem mP_i {E : zE} {ν : zM} {m0 : Nat} {ad : Nat → Nat} {t : mS} {r : Int} {s' : Nat → Int} {A' : Nat → Int → Int} (h : t = (r, s', A')) : mP E ν m0 ad t r (mM E ν m0 ad s' A') := by
  rw [h]
  exact ⟨rfl, rfl⟩
/-- an edge row is in range; a graph is -/
def eV (a : Int → Int) (e : Int) : Prop := (0 ≤ a (7 * e) ∧ a (7 * e) ≤ 7) ∧ (0 ≤ a (7 * e + 1) ∧ a (7 * e + 1) ≤ 7) ∧ (-99 ≤ a (7 * e + 2) ∧ a (7 * e + 2) ≤ 99) ∧ (-9 ≤ a (7 * e + 3) ∧ a (7 * e + 3) ≤ 9) ∧ (1 ≤ a (7 * e + 4) ∧ a (7 * e + 4) ≤ 9) ∧ (1 ≤ a (7 * e + 5) ∧ a (7 * e + 5) ≤ 30) ∧ (1 ≤ a (7 * e + 6) ∧ a (7 * e + 6) ≤ 30)
def gV (a : Int → Int) : Prop := (0 ≤ a 112 ∧ a 112 ≤ 16) ∧ ∀ e, 0 ≤ e → e < a 112 → eV a e
/-- what holds of the model's numbers between calls -/
def mV (s : Nat → Int) (A : Nat → Int → Int) : Prop := gV (A 0) ∧ (0 ≤ s 2 ∧ s 2 ≤ 12) ∧ (∀ k, 0 ≤ k → k < s 2 → gV (fun j => A 1 (113 * k + j))) ∧ (∀ v, 0 ≤ v → v ≤ 7 → -100000 ≤ A 3 v ∧ A 3 v ≤ 100000) ∧ (0 ≤ s 5 ∧ s 5 ≤ 150) ∧ (∀ j, 0 ≤ j → j < s 5 → 0 ≤ A 4 j ∧ A 4 j ≤ 127) ∧ (s 7 = -1000001 ∨ (0 ≤ s 7 ∧ s 7 ≤ 8)) ∧ (0 ≤ s 11 ∧ s 11 ≤ 127) ∧ (s 12 = 0 ∨ s 12 = 1)
def kU (s : Nat → Int) : Int := if s 2 = 12 then 11 else s 2
def sp_undo (s : Nat → Int) (A : Nat → Int → Int) : mS := if s 2 = 0 then (-1000003, s, A) else (s 2 - 1, zg s 2 (s 2 - 1), zg A 0 (fun j => if 0 ≤ j ∧ j < 113 then A 1 (113 * (s 2 - 1) + j) else A 0 j))
theorem m_undo (l : Launch) (E : zE) {ν : zM} {m0 : Nat} {ad : Nat → Nat} {s : Nat → Int} {A : Nat → Int → Int} (hD : mD m0 ad) (hu : 0 ≤ s 2 ∧ s 2 ≤ 12) : Met l yX1_undo (ws_ yX1_undo cX1_undo 2 (some .int)) (zR 1 0 0) (va_Pc [.ref m0] (zPre E (mM E ν m0 ad s A))) (zQi E (mP E ν m0 ad (sp_undo s A))) 0 0 (zA E) := by
  refine zmet (cc := cX1_undo) [_, _] (by decide) (Nat.le_of_ble_eq_true rfl) rfl rfl ?_
  intro X hl hX hinit; subst hl
  have hX : zOK X _ cX1_undo RX1 (some .int) 2 := hX
  generalize hQ : MQ _ _ _ _ _ _ _ = Q
  refine z_aload_n hX rfl (by first | rfl | exact va_rf_r _) dX1_undo_0 ?_
  refine zm_get hX 2 (by decide) q1372 dX1_undo_1 rfl rfl ?_
  refine z_if_ne hX (by omega) dX1_undo_4 (tgt := 10) rfl (fun h_4 => ?_) (fun h_4 => ?_)
  · have loop : ∀ (n : Nat) (i : Int), 0 ≤ i → i ≤ 113 → 113 < i + n → zW X (zR 1 0 0) E (mM E ν m0 ad (zg s 2 (s 2 - 1)) (zg A 0 (fun j => if 0 ≤ j ∧ j < i then A 1 (113 * (s 2 - 1) + j) else A 0 j))) 0 0 Q 22 [some (.ref m0), some (.int (zI i))] [] := by
      intro n
      induction n with
      | zero => intros; exfalso; omega
      | succ n ih =>
        intro i h0 h1 hn
        refine z_iload_n hX rfl dX1_undo_22 ?_
        refine z_bipush hX (by decide) dX1_undo_23 ?_
        refine z_icmp_ge hX (by omega) (by omega) dX1_undo_25 (tgt := 54) rfl (fun h_25 => ?_) (fun h_25 => ?_)
        · obtain rfl : i = 113 := by omega
          refine z_aload_n hX rfl (by first | rfl | exact va_rf_r _) dX1_undo_54 ?_
          refine zm_get hX 2 (by decide) q1372 dX1_undo_55 rfl rfl ?_
          (try rw [← hQ])
          refine z_ireturn hX dX1_undo_58 (by omega) (by omega) ?_
          exact mP_i (by rw [sp_undo, if_neg h_4, zg_s])
        · have e2 : zg s 2 (s 2 - 1) 2 = s 2 - 1 := zg_s _ _ _
          refine z_aload_n hX rfl (by first | rfl | exact va_rf_r _) dX1_undo_28 ?_
          refine zm_get hX 0 (by decide) q1370 dX1_undo_29 rfl rfl ?_
          refine z_iload_n hX rfl dX1_undo_32 ?_
          refine z_aload_n hX rfl (by first | rfl | exact va_rf_r _) dX1_undo_33 ?_
          refine zm_get hX 1 (by decide) q1371 dX1_undo_34 rfl rfl ?_
          refine z_bipush hX (by decide) dX1_undo_37 ?_
          refine z_aload_n hX rfl (by first | rfl | exact va_rf_r _) dX1_undo_39 ?_
          refine zm_get hX 2 (by decide) q1372 dX1_undo_40 rfl rfl ?_
          refine z_imul hX dX1_undo_43 ?_
          refine z_iload_n hX rfl dX1_undo_44 ?_
          refine z_iadd hX dX1_undo_45 ?_
          refine zm_iaload hX hD 1 (by decide) (by decide) 1356 rfl dX1_undo_46 (by omega) ?_
          refine zm_iastore hX hD 0 (by decide) (by decide) 113 rfl dX1_undo_47 (by omega) ?_
          refine z_iinc hX (lv' := [_, _]) rfl (Nat.le_of_ble_eq_true rfl) (by first | exact zpre_0 | exact zpre_n rfl | exact zpre_1 rfl rfl | exact zpre_1 rfl (va_rf_c _)) rfl dX1_undo_48 ?_
          refine z_goto hX (tgt := 22) dX1_undo_51 rfl ?_
          rw [zg_zg, e2, zg_s, zg_n (by decide)]
          refine zW.mu ?_ (ih (i + 1) (by omega) (by omega) (by omega))
          congr 2
          funext j
          by_cases hj : j = i
          · subst hj
            rw [zf_s, if_pos (by omega)]
          · rw [zf_n hj]
            by_cases hj2 : 0 ≤ j ∧ j < i
            · rw [if_pos hj2, if_pos (by omega)]
            · rw [if_neg hj2, if_neg (by omega)]
    refine z_aload_n hX rfl (by first | rfl | exact va_rf_r _) dX1_undo_10 ?_
    refine z_dup hX (by first | rfl | exact va_rf_c _) dX1_undo_11 ?_
    refine zm_get hX 2 (by decide) q1372 dX1_undo_12 rfl rfl ?_
    refine z_iconst hX dX1_undo_15 ?_
    refine z_isub hX dX1_undo_16 ?_
    refine zm_puti hX hD 2 (by decide) q1372 dX1_undo_17 rfl mset_2 ?_
    refine z_iconst hX dX1_undo_20 ?_
    refine z_istore_n hX (lv' := [_, _]) (Nat.le_of_ble_eq_true rfl) (by first | exact zpre_0 | exact zpre_n rfl | exact zpre_1 rfl rfl | exact zpre_1 rfl (va_rf_c _)) rfl dX1_undo_21 ?_
    refine zW.mu ?_ (loop 114 0 (by omega) (by omega) (by omega))
    rw [show (fun j => if 0 ≤ j ∧ j < 0 then A 1 (113 * (s 2 - 1) + j) else A 0 j) = A 0 from by
      funext j
      rw [if_neg (by omega)]]
    congr 1
    funext k
    by_cases hk : k = 0
    · subst hk; rw [zg_s]
    · rw [zg_n hk]
  · refine z_ldc hX (z := -1000003) q1492 (by decide) dX1_undo_7 ?_
    (try rw [← hQ])
    refine z_ireturn hX dX1_undo_9 (by omega) (by omega) ?_
    exact mP_i (by rw [sp_undo, if_pos h_4])

def gBAD : Int := -1000002
theorem m_of0 (l : Launch) (E : zE) {ν : zM} {m0 : Nat} {ad : Nat → Nat} {s : Nat → Int} {A : Nat → Int → Int} (hD : mD m0 ad) {e : Int} (h : 0 ≤ 7 * e ∧ 7 * e < 113) : Met l yX1_of (ws_ yX1_of cX1_of 3 (some .int)) (zR 1 0 0) (va_Pc [.ref m0, .int (zI e), .int (zI 0)] (zPre E (mM E ν m0 ad s A))) (zQi E (fun r μ' => mM E ν m0 ad s A = μ' ∧ A 0 (7 * e) = r)) 0 0 (zA E) := by
  have h := m_of l E (ν := ν) (s := s) (A := A) hD (e := e) (w := 0) (by omega)
  rw [Int.add_zero] at h
  exact h
/-- the row of a new edge -/
def eNew (a : Int → Int) (f t w sl ti : Int) : Int → Int := zf (zf (zf (zf (zf (zf (zf (zf a (7 * a 112) f) (7 * a 112 + 1) t) (7 * a 112 + 2) w) (7 * a 112 + 3) sl) (7 * a 112 + 4) ti) (7 * a 112 + 5) 1) (7 * a 112 + 6) 1) 112 (a 112 + 1)
abbrev eOK (f t w sl ti : Int) : Prop := (0 ≤ f ∧ f ≤ 7) ∧ (0 ≤ t ∧ t ≤ 7) ∧ (-99 ≤ w ∧ w ≤ 99) ∧ (-9 ≤ sl ∧ sl ≤ 9) ∧ (1 ≤ ti ∧ ti ≤ 9)
def kS (s : Nat → Int) : Nat → Int := zg s 2 (kU s + 1)
def sp_addEdge (s : Nat → Int) (A : Nat → Int → Int) (f t w sl ti : Int) : mS := if ¬ eOK f t w sl ti then (gBAD, s, A) else if A 0 112 = 16 then (-1000004, s, A) else (A 0 112, kS s, zg (zg A 1 (kpast s A)) 0 (eNew (A 0) f t w sl ti))
theorem m_addEdge (l : Launch) (E : zE) {ν : zM} {m0 : Nat} {ad : Nat → Nat} {s : Nat → Int} {A : Nat → Int → Int} (hD : mD m0 ad) (hV : mV s A) {f t w sl ti : Int} (hf : iR f) (ht : iR t) (hw : iR w) (hsl : iR sl) (hti : iR ti) : Met l yX1_addEdge (ws_ yX1_addEdge cX1_addEdge 7 (some .int)) (zR 2 0 0) (va_Pc [.ref m0, .int (zI f), .int (zI t), .int (zI w), .int (zI sl), .int (zI ti)] (zPre E (mM E ν m0 ad s A))) (zQi E (mP E ν m0 ad (sp_addEdge s A f t w sl ti))) 0 0 (zA E) := by
  have hn := hV.1.1
  have hu := hV.2.1
  have bad : ∀ {X : zX}, zOK X E cX1_addEdge RX1 (some .int) 7 → ¬ eOK f t w sl ti → ∀ lv, zW X (zR 2 0 0) E (mM E ν m0 ad s A) 0 0 (MQ (zXb X) (zQi E (mP E ν m0 ad (sp_addEdge s A f t w sl ti))) (zXa X) (zXs X) 0 0 (zA E)) 40 lv [] := by
    intro X hX h lv
    refine z_ldc hX (z := -1000002) q1511 (by decide) dX1_addEdge_40 ?_
    (try rw [← hQ])
    refine z_ireturn hX dX1_addEdge_42 (by omega) (by omega) ?_
    exact mP_i (by rw [sp_addEdge, if_pos h]; rfl)
  refine zmet (cc := cX1_addEdge) [_, _, _, _, _, _, _] (by decide) (Nat.le_of_ble_eq_true rfl) rfl rfl ?_
  intro X hl hX hinit; subst hl
  have hX : zOK X _ cX1_addEdge RX1 (some .int) 7 := hX
  refine z_iload_n hX rfl dX1_addEdge_0 ?_
  refine z_callb (z_runS hX (m_isNode _ _ _ hf) (va_cwS 1 hX.ts (lw_S q1497 q1498 q71 q1499) rfl rfl rfl (by decide +kernel) (zroom (by decide) (by decide))) dX1_addEdge_1 rfl rfl rfl (by first | exact Nat.le_of_ble_eq_true rfl | simp [va_rf_c, Value.category]) (zhf (by omega) (by omega))) (fun r_1 μ_1 h_1 => ?_)
  obtain ⟨rfl, rfl⟩ := h_1
  refine z_if_eq_b hX dX1_addEdge_4 (tgt := 40) rfl (fun h_4 => ?_) (fun h_4 => ?_)
  · exact bad hX (fun q => by simp at h_4; omega) _
  · refine z_iload_n hX rfl dX1_addEdge_7 ?_
    refine z_callb (z_runS hX (m_isNode _ _ _ ht) (va_cwS 1 hX.ts (lw_S q1497 q1498 q71 q1499) rfl rfl rfl (by decide +kernel) (zroom (by decide) (by decide))) dX1_addEdge_8 rfl rfl rfl (by first | exact Nat.le_of_ble_eq_true rfl | simp [va_rf_c, Value.category]) (zhf (by omega) (by omega))) (fun r_8 μ_8 h_8 => ?_)
    obtain ⟨rfl, rfl⟩ := h_8
    refine z_if_eq_b hX dX1_addEdge_11 (tgt := 40) rfl (fun h_11 => ?_) (fun h_11 => ?_)
    · exact bad hX (fun q => by simp at h_11; omega) _
    · refine z_iconst hX dX1_addEdge_14 ?_
      refine z_iload_n hX rfl dX1_addEdge_15 ?_
      refine z_callb (z_runS hX (m_isValue _ _ _ (by omega) hw) (va_cwS 2 hX.ts (lw_S q1504 q1505 q71 q1506) rfl rfl rfl (by decide +kernel) (zroom (by decide) (by decide))) dX1_addEdge_16 rfl rfl rfl (by first | exact Nat.le_of_ble_eq_true rfl | simp [va_rf_c, Value.category]) (zhf (by omega) (by omega))) (fun r_16 μ_16 h_16 => ?_)
      obtain ⟨rfl, rfl⟩ := h_16
      refine z_if_eq_b hX dX1_addEdge_19 (tgt := 40) rfl (fun h_19 => ?_) (fun h_19 => ?_)
      · exact bad hX (fun q => by simp at h_19; omega) _
      · refine z_iconst hX dX1_addEdge_22 ?_
        refine z_iload hX rfl dX1_addEdge_23 ?_
        refine z_callb (z_runS hX (m_isValue _ _ _ (by omega) hsl) (va_cwS 2 hX.ts (lw_S q1504 q1505 q71 q1506) rfl rfl rfl (by decide +kernel) (zroom (by decide) (by decide))) dX1_addEdge_25 rfl rfl rfl (by first | exact Nat.le_of_ble_eq_true rfl | simp [va_rf_c, Value.category]) (zhf (by omega) (by omega))) (fun r_25 μ_25 h_25 => ?_)
        obtain ⟨rfl, rfl⟩ := h_25
        refine z_if_eq_b hX dX1_addEdge_28 (tgt := 40) rfl (fun h_28 => ?_) (fun h_28 => ?_)
        · exact bad hX (fun q => by simp at h_28; omega) _
        · refine z_iconst hX dX1_addEdge_31 ?_
          refine z_iload hX rfl dX1_addEdge_32 ?_
          refine z_callb (z_runS hX (m_isValue _ _ _ (by omega) hti) (va_cwS 2 hX.ts (lw_S q1504 q1505 q71 q1506) rfl rfl rfl (by decide +kernel) (zroom (by decide) (by decide))) dX1_addEdge_34 rfl rfl rfl (by first | exact Nat.le_of_ble_eq_true rfl | simp [va_rf_c, Value.category]) (zhf (by omega) (by omega))) (fun r_34 μ_34 h_34 => ?_)
          obtain ⟨rfl, rfl⟩ := h_34
          refine z_if_ne_b hX dX1_addEdge_37 (tgt := 43) rfl (fun h_37 => ?_) (fun h_37 => ?_)
          · have hok : eOK f t w sl ti := by simp at h_4 h_11 h_19 h_28 h_37; omega
            refine z_aload_n hX rfl (by first | rfl | exact va_rf_r _) dX1_addEdge_43 ?_
            refine zm_get hX 0 (by decide) q1370 dX1_addEdge_44 rfl rfl ?_
            refine z_bipush hX (by decide) dX1_addEdge_47 ?_
            refine zm_iaload hX hD 0 (by decide) (by decide) 113 rfl dX1_addEdge_49 (by omega) ?_
            refine z_bipush hX (by decide) dX1_addEdge_50 ?_
            refine z_icmp_ne hX (by omega) (by omega) dX1_addEdge_52 (tgt := 58) rfl (fun h_52 => ?_) (fun h_52 => ?_)
            · refine z_aload_n hX rfl (by first | rfl | exact va_rf_r _) dX1_addEdge_58 ?_
              refine z_callv (z_runV hX (m_keeps _ _ hD hu) (cwV 0 hX.ts (lw_V q1513 q1515 qs32 q71 q1516) rfl rfl rfl (by decide +kernel) (zroom (by decide) (by decide))) dX1_addEdge_59 mM_0 (ci := 1) rfl rfl rfl rfl (by first | exact Nat.le_of_ble_eq_true rfl | simp [va_rf_c, Value.category]) (zhf (by omega) (by omega))) (fun μ_59 h_59 => ?_)
              obtain rfl := h_59; have e1 : zg A 1 (kpast s A) 0 = A 0 := zg_n (by decide); have e2 := congrFun e1 112
              refine z_bipush hX (by decide) dX1_addEdge_62 ?_
              refine z_aload_n hX rfl (by first | rfl | exact va_rf_r _) dX1_addEdge_64 ?_
              refine zm_get hX 0 (by decide) q1370 dX1_addEdge_65 rfl rfl ?_
              refine z_bipush hX (by decide) dX1_addEdge_68 ?_
              refine zm_iaload hX hD 0 (by decide) (by decide) 113 rfl dX1_addEdge_70 (by omega) ?_
              refine z_imul hX dX1_addEdge_71 ?_
              refine z_istore hX (lv' := [_, _, _, _, _, _, _]) (Nat.le_of_ble_eq_true rfl) (by first | exact zpre_0 | exact zpre_n rfl | exact zpre_1 rfl rfl | exact zpre_1 rfl (va_rf_c _)) rfl dX1_addEdge_72 ?_
              refine z_aload_n hX rfl (by first | rfl | exact va_rf_r _) dX1_addEdge_74 ?_
              refine zm_get hX 0 (by decide) q1370 dX1_addEdge_75 rfl rfl ?_
              refine z_iload hX rfl dX1_addEdge_78 ?_
              refine z_iload_n hX rfl dX1_addEdge_80 ?_
              refine zm_iastore hX hD 0 (by decide) (by decide) 113 rfl dX1_addEdge_81 (by omega) ?_
              refine z_aload_n hX rfl (by first | rfl | exact va_rf_r _) dX1_addEdge_82 ?_
              refine zm_get hX 0 (by decide) q1370 dX1_addEdge_83 rfl rfl ?_
              refine z_iload hX rfl dX1_addEdge_86 ?_
              refine z_iconst hX dX1_addEdge_88 ?_
              refine z_iadd hX dX1_addEdge_89 ?_
              refine z_iload_n hX rfl dX1_addEdge_90 ?_
              refine zm_iastore hX hD 0 (by decide) (by decide) 113 rfl dX1_addEdge_91 (by omega) ?_
              refine z_aload_n hX rfl (by first | rfl | exact va_rf_r _) dX1_addEdge_92 ?_
              refine zm_get hX 0 (by decide) q1370 dX1_addEdge_93 rfl rfl ?_
              refine z_iload hX rfl dX1_addEdge_96 ?_
              refine z_iconst hX dX1_addEdge_98 ?_
              refine z_iadd hX dX1_addEdge_99 ?_
              refine z_iload_n hX rfl dX1_addEdge_100 ?_
              refine zm_iastore hX hD 0 (by decide) (by decide) 113 rfl dX1_addEdge_101 (by omega) ?_
              refine z_aload_n hX rfl (by first | rfl | exact va_rf_r _) dX1_addEdge_102 ?_
              refine zm_get hX 0 (by decide) q1370 dX1_addEdge_103 rfl rfl ?_
              refine z_iload hX rfl dX1_addEdge_106 ?_
              refine z_iconst hX dX1_addEdge_108 ?_
              refine z_iadd hX dX1_addEdge_109 ?_
              refine z_iload hX rfl dX1_addEdge_110 ?_
              refine zm_iastore hX hD 0 (by decide) (by decide) 113 rfl dX1_addEdge_112 (by omega) ?_
              refine z_aload_n hX rfl (by first | rfl | exact va_rf_r _) dX1_addEdge_113 ?_
              refine zm_get hX 0 (by decide) q1370 dX1_addEdge_114 rfl rfl ?_
              refine z_iload hX rfl dX1_addEdge_117 ?_
              refine z_iconst hX dX1_addEdge_119 ?_
              refine z_iadd hX dX1_addEdge_120 ?_
              refine z_iload hX rfl dX1_addEdge_121 ?_
              refine zm_iastore hX hD 0 (by decide) (by decide) 113 rfl dX1_addEdge_123 (by omega) ?_
              refine z_aload_n hX rfl (by first | rfl | exact va_rf_r _) dX1_addEdge_124 ?_
              refine zm_get hX 0 (by decide) q1370 dX1_addEdge_125 rfl rfl ?_
              refine z_iload hX rfl dX1_addEdge_128 ?_
              refine z_iconst hX dX1_addEdge_130 ?_
              refine z_iadd hX dX1_addEdge_131 ?_
              refine z_iconst hX dX1_addEdge_132 ?_
              refine zm_iastore hX hD 0 (by decide) (by decide) 113 rfl dX1_addEdge_133 (by omega) ?_
              refine z_aload_n hX rfl (by first | rfl | exact va_rf_r _) dX1_addEdge_134 ?_
              refine zm_get hX 0 (by decide) q1370 dX1_addEdge_135 rfl rfl ?_
              refine z_iload hX rfl dX1_addEdge_138 ?_
              refine z_bipush hX (by decide) dX1_addEdge_140 ?_
              refine z_iadd hX dX1_addEdge_142 ?_
              refine z_iconst hX dX1_addEdge_143 ?_
              refine zm_iastore hX hD 0 (by decide) (by decide) 113 rfl dX1_addEdge_144 (by omega) ?_
              refine z_aload_n hX rfl (by first | rfl | exact va_rf_r _) dX1_addEdge_145 ?_
              refine zm_get hX 0 (by decide) q1370 dX1_addEdge_146 rfl rfl ?_
              refine z_bipush hX (by decide) dX1_addEdge_149 ?_
              refine z_dup2 hX (by first | rfl | exact va_rf_c _) (by first | rfl | exact va_rf_c _) dX1_addEdge_151 ?_
              refine zm_iaload hX hD 0 (by decide) (by decide) 113 rfl dX1_addEdge_152 (by omega) ?_
              refine z_iconst hX dX1_addEdge_153 ?_
              refine z_iadd hX dX1_addEdge_154 ?_
              refine zm_iastore hX hD 0 (by decide) (by decide) 113 rfl dX1_addEdge_155 (by omega) ?_
              refine z_aload_n hX rfl (by first | rfl | exact va_rf_r _) dX1_addEdge_156 ?_
              refine zm_get hX 0 (by decide) q1370 dX1_addEdge_157 rfl rfl ?_
              refine z_bipush hX (by decide) dX1_addEdge_160 ?_
              refine zm_iaload hX hD 0 (by decide) (by decide) 113 rfl dX1_addEdge_162 (by omega) ?_
              refine z_iconst hX dX1_addEdge_163 ?_
              refine z_isub hX dX1_addEdge_164 ?_
              (try rw [← hQ])
              refine z_ireturn hX dX1_addEdge_165 (by omega) (by omega) ?_
              simp only [zg_zg, zg_s, e1]
              have e3 : ∀ (g : Int → Int) (c v : Int), 0 ≤ c → c ≤ 6 → zf g (7 * A 0 112 + c) v 112 = g 112 := fun g c v h1 h2 => zf_n (by omega)
              have e4 : ∀ (g : Int → Int) (v : Int), zf g (7 * A 0 112) v 112 = g 112 := fun g v => zf_n (by omega)
              rw [e3 _ 6 _ (by decide) (by decide), e3 _ 5 _ (by decide) (by decide), e3 _ 4 _ (by decide) (by decide), e3 _ 3 _ (by decide) (by decide), e3 _ 2 _ (by decide) (by decide), e3 _ 1 _ (by decide) (by decide), e4, zf_s]
              refine mP_i ?_
              rw [sp_addEdge, if_neg (fun q => q hok), if_neg h_52, show A 0 112 + 1 - 1 = A 0 112 by omega]
              rfl
            · refine z_ldc hX (z := -1000004) q1512 (by decide) dX1_addEdge_55 ?_
              (try rw [← hQ])
              refine z_ireturn hX dX1_addEdge_57 (by omega) (by omega) ?_
              exact mP_i (by rw [sp_addEdge, if_neg (fun q => q hok), if_pos h_52])
          · exact bad hX (fun q => by simp at h_37; omega) _

def sp_removeEdge (s : Nat → Int) (A : Nat → Int → Int) (e : Int) : mS := if ¬ (0 ≤ e ∧ e < A 0 112) then (gBAD, s, A) else (A 0 112 - 1, kS s, zg (zg A 1 (kpast s A)) 0 (fun j => if j = 112 then A 0 112 - 1 else if 7 * e ≤ j ∧ j < 7 * (A 0 112 - 1) then A 0 (j + 7) else A 0 j))
theorem m_removeEdge (l : Launch) (E : zE) {ν : zM} {m0 : Nat} {ad : Nat → Nat} {s : Nat → Int} {A : Nat → Int → Int} (hD : mD m0 ad) (hV : mV s A) {e : Int} (he : iR e) : Met l yX1_removeEdge (ws_ yX1_removeEdge cX1_removeEdge 3 (some .int)) (zR 2 0 0) (va_Pc [.ref m0, .int (zI e)] (zPre E (mM E ν m0 ad s A))) (zQi E (mP E ν m0 ad (sp_removeEdge s A e))) 0 0 (zA E) := by
  have hn := hV.1.1
  have hu := hV.2.1
  refine zmet (cc := cX1_removeEdge) [_, _, _] (by decide) (Nat.le_of_ble_eq_true rfl) rfl rfl ?_
  intro X hl hX hinit; subst hl
  have hX : zOK X _ cX1_removeEdge RX1 (some .int) 3 := hX
  generalize hQ : MQ _ _ _ _ _ _ _ = Q
  refine z_aload_n hX rfl (by first | rfl | exact va_rf_r _) dX1_removeEdge_0 ?_
  refine z_iload_n hX rfl dX1_removeEdge_1 ?_
  refine z_callb (z_runV hX (m_isEdge _ _ hD hn he) (cwV 1 hX.ts (lw_V q1521 q1523 qs33 q71 q1524) rfl rfl rfl (by decide +kernel) (zroom (by decide) (by decide))) dX1_removeEdge_2 mM_0 (ci := 1) rfl rfl rfl rfl (by first | exact Nat.le_of_ble_eq_true rfl | simp [va_rf_c, Value.category]) (zhf (by omega) (by omega))) (fun r_2 μ_2 h_2 => ?_)
  obtain ⟨rfl, rfl⟩ := h_2
  refine z_if_ne_b hX dX1_removeEdge_5 (tgt := 11) rfl (fun h_5 => ?_) (fun h_5 => ?_)
  · have hok : 0 ≤ e ∧ e < A 0 112 := by simpa using h_5
    have e1 : zg A 1 (kpast s A) 0 = A 0 := zg_n (by decide)
    have e2 := congrFun e1 112
    have loop : ∀ (n : Nat) (i : Int), 7 * e ≤ i → i ≤ 7 * (A 0 112 - 1) → 7 * (A 0 112 - 1) < i + n → zW X (zR 2 0 0) E (mM E ν m0 ad (kS s) (zg (zg A 1 (kpast s A)) 0 (fun j => if j = 112 then A 0 112 - 1 else if 7 * e ≤ j ∧ j < i then A 0 (j + 7) else A 0 j))) 0 0 Q 31 [some (.ref m0), some (.int (zI e)), some (.int (zI i))] [] := by
      intro n
      induction n with
      | zero => intros; exfalso; omega
      | succ n ih =>
        intro i h0 h1 hn2
        have e3 : (zg (zg A 1 (kpast s A)) 0 (fun j => if j = 112 then A 0 112 - 1 else if 7 * e ≤ j ∧ j < i then A 0 (j + 7) else A 0 j)) 0 112 = A 0 112 - 1 := by rw [zg_s, if_pos rfl]
        refine z_iload_n hX rfl dX1_removeEdge_31 ?_
        refine z_bipush hX (by decide) dX1_removeEdge_32 ?_
        refine z_aload_n hX rfl (by first | rfl | exact va_rf_r _) dX1_removeEdge_34 ?_
        refine zm_get hX 0 (by decide) q1370 dX1_removeEdge_35 rfl rfl ?_
        refine z_bipush hX (by decide) dX1_removeEdge_38 ?_
        refine zm_iaload hX hD 0 (by decide) (by decide) 113 rfl dX1_removeEdge_40 (by omega) ?_
        refine z_imul hX dX1_removeEdge_41 ?_
        refine z_icmp_ge hX (by omega) (by omega) dX1_removeEdge_42 (tgt := 66) rfl (fun h_42 => ?_) (fun h_42 => ?_)
        · obtain rfl : i = 7 * (A 0 112 - 1) := by omega
          refine z_aload_n hX rfl (by first | rfl | exact va_rf_r _) dX1_removeEdge_66 ?_
          refine zm_get hX 0 (by decide) q1370 dX1_removeEdge_67 rfl rfl ?_
          refine z_bipush hX (by decide) dX1_removeEdge_70 ?_
          refine zm_iaload hX hD 0 (by decide) (by decide) 113 rfl dX1_removeEdge_72 (by omega) ?_
          (try rw [← hQ])
          refine z_ireturn hX dX1_removeEdge_73 (by omega) (by omega) ?_
          exact mP_i (by rw [sp_removeEdge, if_neg (fun q => q hok), zg_s, if_pos rfl])
        · refine z_aload_n hX rfl (by first | rfl | exact va_rf_r _) dX1_removeEdge_45 ?_
          refine zm_get hX 0 (by decide) q1370 dX1_removeEdge_46 rfl rfl ?_
          refine z_iload_n hX rfl dX1_removeEdge_49 ?_
          refine z_aload_n hX rfl (by first | rfl | exact va_rf_r _) dX1_removeEdge_50 ?_
          refine zm_get hX 0 (by decide) q1370 dX1_removeEdge_51 rfl rfl ?_
          refine z_iload_n hX rfl dX1_removeEdge_54 ?_
          refine z_bipush hX (by decide) dX1_removeEdge_55 ?_
          refine z_iadd hX dX1_removeEdge_57 ?_
          refine zm_iaload hX hD 0 (by decide) (by decide) 113 rfl dX1_removeEdge_58 (by omega) ?_
          refine zm_iastore hX hD 0 (by decide) (by decide) 113 rfl dX1_removeEdge_59 (by omega) ?_
          refine z_iinc hX (lv' := [_, _, _]) rfl (Nat.le_of_ble_eq_true rfl) (by first | exact zpre_0 | exact zpre_n rfl | exact zpre_1 rfl rfl | exact zpre_1 rfl (va_rf_c _)) rfl dX1_removeEdge_60 ?_
          refine z_goto hX (tgt := 31) dX1_removeEdge_63 rfl ?_
          rw [zg_zg, zg_s]
          refine zW.mu ?_ (ih (i + 1) (by omega) (by omega) (by omega))
          congr 2
          funext j
          by_cases hj : j = i
          · subst hj
            rw [zf_s, if_neg (show ¬ j = 112 by omega), if_pos (show 7 * e ≤ j ∧ j < j + 1 by omega), if_neg (show ¬ j + 7 = 112 by omega), if_neg (by omega)]
          · rw [zf_n hj]
            by_cases hj1 : j = 112
            · rw [if_pos hj1, if_pos hj1]
            · rw [if_neg hj1, if_neg hj1]
              by_cases hj2 : 7 * e ≤ j ∧ j < i
              · rw [if_pos hj2, if_pos (by omega)]
              · rw [if_neg hj2, if_neg (by omega)]
    refine z_aload_n hX rfl (by first | rfl | exact va_rf_r _) dX1_removeEdge_11 ?_
    refine z_callv (z_runV hX (m_keeps _ _ hD hu) (cwV 0 hX.ts (lw_V q1513 q1515 qs32 q71 q1516) rfl rfl rfl (by decide +kernel) (zroom (by decide) (by decide))) dX1_removeEdge_12 mM_0 (ci := 1) rfl rfl rfl rfl (by first | exact Nat.le_of_ble_eq_true rfl | simp [va_rf_c, Value.category]) (zhf (by omega) (by omega))) (fun μ_12 h_12 => ?_)
    obtain rfl := h_12
    refine z_aload_n hX rfl (by first | rfl | exact va_rf_r _) dX1_removeEdge_15 ?_
    refine zm_get hX 0 (by decide) q1370 dX1_removeEdge_16 rfl rfl ?_
    refine z_bipush hX (by decide) dX1_removeEdge_19 ?_
    refine z_dup2 hX (by first | rfl | exact va_rf_c _) (by first | rfl | exact va_rf_c _) dX1_removeEdge_21 ?_
    refine zm_iaload hX hD 0 (by decide) (by decide) 113 rfl dX1_removeEdge_22 (by omega) ?_
    refine z_iconst hX dX1_removeEdge_23 ?_
    refine z_isub hX dX1_removeEdge_24 ?_
    refine zm_iastore hX hD 0 (by decide) (by decide) 113 rfl dX1_removeEdge_25 (by omega) ?_
    refine z_bipush hX (by decide) dX1_removeEdge_26 ?_
    refine z_iload_n hX rfl dX1_removeEdge_28 ?_
    refine z_imul hX dX1_removeEdge_29 ?_
    refine z_istore_n hX (lv' := [_, _, _]) (Nat.le_of_ble_eq_true rfl) (by first | exact zpre_0 | exact zpre_n rfl | exact zpre_1 rfl rfl | exact zpre_1 rfl (va_rf_c _)) rfl dX1_removeEdge_30 ?_
    rw [e1, show (7 : Int) * e = 7 * e from rfl]
    refine zW.mu ?_ (loop (7 * (A 0 112 - 1) - 7 * e + 1).toNat (7 * e) (by omega) (by omega) (by omega))
    unfold kS kU
    congr 2
    funext j
    unfold zf
    by_cases hj1 : j = 112
    · rw [if_pos hj1, if_pos hj1]
    · rw [if_neg hj1, if_neg hj1, if_neg (by omega)]
  · have hok : ¬ (0 ≤ e ∧ e < A 0 112) := by simpa using h_5
    refine z_ldc hX (z := -1000002) q1511 (by decide) dX1_removeEdge_8 ?_
    (try rw [← hQ])
    refine z_ireturn hX dX1_removeEdge_10 (by omega) (by omega) ?_
    exact mP_i (by rw [sp_removeEdge, if_pos hok]; rfl)
abbrev vOK (w v : Int) : Prop := (w = 2 ∧ -99 ≤ v ∧ v ≤ 99) ∨ (w = 3 ∧ -9 ≤ v ∧ v ≤ 9) ∨ (w = 4 ∧ 1 ≤ v ∧ v ≤ 9)
def sp_setEdge (s : Nat → Int) (A : Nat → Int → Int) (e w v : Int) : mS := if ¬ ((0 ≤ e ∧ e < A 0 112) ∧ vOK w v) then (gBAD, s, A) else (A 0 (7 * e + w), kS s, zg (zg A 1 (kpast s A)) 0 (zf (A 0) (7 * e + w) v))
theorem m_setEdge (l : Launch) (E : zE) {ν : zM} {m0 : Nat} {ad : Nat → Nat} {s : Nat → Int} {A : Nat → Int → Int} (hD : mD m0 ad) (hV : mV s A) {e w v : Int} (he : iR e) (hw : iR w) (hv : iR v) : Met l yX1_setEdge (ws_ yX1_setEdge cX1_setEdge 5 (some .int)) (zR 2 0 0) (va_Pc [.ref m0, .int (zI e), .int (zI w), .int (zI v)] (zPre E (mM E ν m0 ad s A))) (zQi E (mP E ν m0 ad (sp_setEdge s A e w v))) 0 0 (zA E) := by
  have hn := hV.1.1
  have hu := hV.2.1
  refine zmet (cc := cX1_setEdge) [_, _, _, _, _] (by decide) (Nat.le_of_ble_eq_true rfl) rfl rfl ?_
  intro X hl hX hinit; subst hl
  have hX : zOK X _ cX1_setEdge RX1 (some .int) 5 := hX
  refine z_aload_n hX rfl (by first | rfl | exact va_rf_r _) dX1_setEdge_0 ?_
  refine z_iload_n hX rfl dX1_setEdge_1 ?_
  refine z_callb (z_runV hX (m_isEdge _ _ hD hn he) (cwV 1 hX.ts (lw_V q1521 q1523 qs33 q71 q1524) rfl rfl rfl (by decide +kernel) (zroom (by decide) (by decide))) dX1_setEdge_2 mM_0 (ci := 1) rfl rfl rfl rfl (by first | exact Nat.le_of_ble_eq_true rfl | simp [va_rf_c, Value.category]) (zhf (by omega) (by omega))) (fun r_2 μ_2 h_2 => ?_)
  obtain ⟨rfl, rfl⟩ := h_2
  refine z_if_eq_b hX dX1_setEdge_5 (tgt := 16) rfl (fun h_5 => ?_) (fun h_5 => ?_)
  · have hok : ¬ ((0 ≤ e ∧ e < A 0 112) ∧ vOK w v) := by simp at h_5; omega
    refine z_ldc hX (z := -1000002) q1511 (by decide) dX1_setEdge_16 ?_
    (try rw [← hQ])
    refine z_ireturn hX dX1_setEdge_18 (by omega) (by omega) ?_
    exact mP_i (by rw [sp_setEdge, if_pos hok]; rfl)
  · refine z_iload_n hX rfl dX1_setEdge_8 ?_
    refine z_iload_n hX rfl dX1_setEdge_9 ?_
    refine z_callb (z_runS hX (m_isValue _ _ _ hw hv) (va_cwS 2 hX.ts (lw_S q1504 q1505 q71 q1506) rfl rfl rfl (by decide +kernel) (zroom (by decide) (by decide))) dX1_setEdge_10 rfl rfl rfl (by first | exact Nat.le_of_ble_eq_true rfl | simp [va_rf_c, Value.category]) (zhf (by omega) (by omega))) (fun r_10 μ_10 h_10 => ?_)
    obtain ⟨rfl, rfl⟩ := h_10
    refine z_if_ne_b hX dX1_setEdge_13 (tgt := 19) rfl (fun h_13 => ?_) (fun h_13 => ?_)
    · have hok : (0 ≤ e ∧ e < A 0 112) ∧ vOK w v := by simp at h_5 h_13; exact ⟨h_5, h_13⟩
      have hb : 2 ≤ w ∧ w ≤ 4 := by omega
      have e1 : zg A 1 (kpast s A) 0 = A 0 := zg_n (by decide)
      refine z_aload_n hX rfl (by first | rfl | exact va_rf_r _) dX1_setEdge_19 ?_
      refine z_callv (z_runV hX (m_keeps _ _ hD hu) (cwV 0 hX.ts (lw_V q1513 q1515 qs32 q71 q1516) rfl rfl rfl (by decide +kernel) (zroom (by decide) (by decide))) dX1_setEdge_20 mM_0 (ci := 1) rfl rfl rfl rfl (by first | exact Nat.le_of_ble_eq_true rfl | simp [va_rf_c, Value.category]) (zhf (by omega) (by omega))) (fun μ_20 h_20 => ?_)
      obtain rfl := h_20
      refine z_aload_n hX rfl (by first | rfl | exact va_rf_r _) dX1_setEdge_23 ?_
      refine z_iload_n hX rfl dX1_setEdge_24 ?_
      refine z_iload_n hX rfl dX1_setEdge_25 ?_
      refine z_calli (z_runV hX (m_of _ _ hD (by omega)) (cwV 2 hX.ts (lw_V q1529 q1531 qs34 q71 q1532) rfl rfl rfl (by decide +kernel) (zroom (by decide) (by decide))) dX1_setEdge_26 mM_0 (ci := 1) rfl rfl rfl rfl (by first | exact Nat.le_of_ble_eq_true rfl | simp [va_rf_c, Value.category]) (zhf (by omega) (by omega))) (fun r_26 μ_26 h_26 => ?_)
      obtain ⟨rfl, rfl⟩ := h_26
      refine z_istore hX (lv' := [_, _, _, _, _]) (Nat.le_of_ble_eq_true rfl) (by first | exact zpre_0 | exact zpre_n rfl | exact zpre_1 rfl rfl | exact zpre_1 rfl (va_rf_c _)) rfl dX1_setEdge_29 ?_
      refine z_aload_n hX rfl (by first | rfl | exact va_rf_r _) dX1_setEdge_31 ?_
      refine zm_get hX 0 (by decide) q1370 dX1_setEdge_32 rfl rfl ?_
      refine z_bipush hX (by decide) dX1_setEdge_35 ?_
      refine z_iload_n hX rfl dX1_setEdge_37 ?_
      refine z_imul hX dX1_setEdge_38 ?_
      refine z_iload_n hX rfl dX1_setEdge_39 ?_
      refine z_iadd hX dX1_setEdge_40 ?_
      refine z_iload_n hX rfl dX1_setEdge_41 ?_
      refine zm_iastore hX hD 0 (by decide) (by decide) 113 rfl dX1_setEdge_42 (by omega) ?_
      refine z_iload hX rfl dX1_setEdge_43 ?_
      (try rw [← hQ])
      refine z_ireturn hX dX1_setEdge_45 (by omega) (by omega) ?_
      rw [e1]
      exact mP_i (by rw [sp_setEdge, if_neg (fun q => q hok)]; rfl)
    · have hok : ¬ ((0 ≤ e ∧ e < A 0 112) ∧ vOK w v) := by simp at h_13; omega
      refine z_ldc hX (z := -1000002) q1511 (by decide) dX1_setEdge_16 ?_
      (try rw [← hQ])
      refine z_ireturn hX dX1_setEdge_18 (by omega) (by omega) ?_
      exact mP_i (by rw [sp_setEdge, if_pos hok]; rfl)
abbrev rOK (n : Int) : Prop := 1 ≤ n ∧ n ≤ 30
def sp_setRate (s : Nat → Int) (A : Nat → Int → Int) (e p q : Int) : mS := if ¬ ((0 ≤ e ∧ e < A 0 112) ∧ rOK p ∧ rOK q) then (gBAD, s, A) else (100 * A 0 (7 * e + 5) + A 0 (7 * e + 6), kS s, zg (zg A 1 (kpast s A)) 0 (zf (zf (A 0) (7 * e + 5) p) (7 * e + 6) q))
theorem m_setRate (l : Launch) (E : zE) {ν : zM} {m0 : Nat} {ad : Nat → Nat} {s : Nat → Int} {A : Nat → Int → Int} (hD : mD m0 ad) (hV : mV s A) {e p q : Int} (he : iR e) (hp : iR p) (hq : iR q) : Met l yX1_setRate (ws_ yX1_setRate cX1_setRate 5 (some .int)) (zR 2 0 0) (va_Pc [.ref m0, .int (zI e), .int (zI p), .int (zI q)] (zPre E (mM E ν m0 ad s A))) (zQi E (mP E ν m0 ad (sp_setRate s A e p q))) 0 0 (zA E) := by
  have hn := hV.1.1
  have hu := hV.2.1
  refine zmet (cc := cX1_setRate) [_, _, _, _, _] (by decide) (Nat.le_of_ble_eq_true rfl) rfl rfl ?_
  intro X hl hX hinit; subst hl
  have hX : zOK X _ cX1_setRate RX1 (some .int) 5 := hX
  refine z_aload_n hX rfl (by first | rfl | exact va_rf_r _) dX1_setRate_0 ?_
  refine z_iload_n hX rfl dX1_setRate_1 ?_
  refine z_callb (z_runV hX (m_isEdge _ _ hD hn he) (cwV 1 hX.ts (lw_V q1521 q1523 qs33 q71 q1524) rfl rfl rfl (by decide +kernel) (zroom (by decide) (by decide))) dX1_setRate_2 mM_0 (ci := 1) rfl rfl rfl rfl (by first | exact Nat.le_of_ble_eq_true rfl | simp [va_rf_c, Value.category]) (zhf (by omega) (by omega))) (fun r_2 μ_2 h_2 => ?_)
  obtain ⟨rfl, rfl⟩ := h_2
  refine z_if_eq_b hX dX1_setRate_5 (tgt := 32) rfl (fun h_5 => ?_) (fun h_5 => ?_)
  · have hok : ¬ ((0 ≤ e ∧ e < A 0 112) ∧ rOK p ∧ rOK q) := by simp at h_5; omega
    refine z_ldc hX (z := -1000002) q1511 (by decide) dX1_setRate_32 ?_
    (try rw [← hQ])
    refine z_ireturn hX dX1_setRate_34 (by omega) (by omega) ?_
    exact mP_i (by rw [sp_setRate, if_pos hok]; rfl)
  · refine z_iload_n hX rfl dX1_setRate_8 ?_
    refine z_i2l hX (by omega) dX1_setRate_9 ?_
    refine z_lconst hX (z := 1) (by decide) dX1_setRate_10 ?_
    refine z_ldc2_w hX (z := 30) q1537 (by decide) dX1_setRate_11 ?_
    refine z_callb (z_runS hX (m_in _ _ _ (by omega) (by omega) (by omega)) (va_cwS 3 hX.ts (lw_S q1501 q1502 q71 q1503) rfl rfl rfl (by decide +kernel) (zroom (by decide) (by decide))) dX1_setRate_14 rfl rfl rfl (by first | exact Nat.le_of_ble_eq_true rfl | simp [va_rf_c, Value.category]) (zhf (by omega) (by omega))) (fun r_14 μ_14 h_14 => ?_)
    obtain ⟨rfl, rfl⟩ := h_14
    refine z_if_eq_b hX dX1_setRate_17 (tgt := 32) rfl (fun h_17 => ?_) (fun h_17 => ?_)
    · have hok : ¬ ((0 ≤ e ∧ e < A 0 112) ∧ rOK p ∧ rOK q) := by simp at h_17; omega
      refine z_ldc hX (z := -1000002) q1511 (by decide) dX1_setRate_32 ?_
      (try rw [← hQ])
      refine z_ireturn hX dX1_setRate_34 (by omega) (by omega) ?_
      exact mP_i (by rw [sp_setRate, if_pos hok]; rfl)
    · refine z_iload_n hX rfl dX1_setRate_20 ?_
      refine z_i2l hX (by omega) dX1_setRate_21 ?_
      refine z_lconst hX (z := 1) (by decide) dX1_setRate_22 ?_
      refine z_ldc2_w hX (z := 30) q1537 (by decide) dX1_setRate_23 ?_
      refine z_callb (z_runS hX (m_in _ _ _ (by omega) (by omega) (by omega)) (va_cwS 3 hX.ts (lw_S q1501 q1502 q71 q1503) rfl rfl rfl (by decide +kernel) (zroom (by decide) (by decide))) dX1_setRate_26 rfl rfl rfl (by first | exact Nat.le_of_ble_eq_true rfl | simp [va_rf_c, Value.category]) (zhf (by omega) (by omega))) (fun r_26 μ_26 h_26 => ?_)
      obtain ⟨rfl, rfl⟩ := h_26
      refine z_if_ne_b hX dX1_setRate_29 (tgt := 35) rfl (fun h_29 => ?_) (fun h_29 => ?_)
      · have hok : (0 ≤ e ∧ e < A 0 112) ∧ rOK p ∧ rOK q := by simp at h_5 h_17 h_29; omega
        have e1 : zg A 1 (kpast s A) 0 = A 0 := zg_n (by decide)
        refine z_aload_n hX rfl (by first | rfl | exact va_rf_r _) dX1_setRate_35 ?_
        refine z_callv (z_runV hX (m_keeps _ _ hD hu) (cwV 0 hX.ts (lw_V q1513 q1515 qs32 q71 q1516) rfl rfl rfl (by decide +kernel) (zroom (by decide) (by decide))) dX1_setRate_36 mM_0 (ci := 1) rfl rfl rfl rfl (by first | exact Nat.le_of_ble_eq_true rfl | simp [va_rf_c, Value.category]) (zhf (by omega) (by omega))) (fun μ_36 h_36 => ?_)
        obtain rfl := h_36
        refine z_bipush hX (by decide) dX1_setRate_39 ?_
        refine z_aload_n hX rfl (by first | rfl | exact va_rf_r _) dX1_setRate_41 ?_
        refine z_iload_n hX rfl dX1_setRate_42 ?_
        refine z_iconst hX dX1_setRate_43 ?_
        refine z_calli (z_runV hX (m_of _ _ hD (by omega)) (cwV 2 hX.ts (lw_V q1529 q1531 qs34 q71 q1532) rfl rfl rfl (by decide +kernel) (zroom (by decide) (by decide))) dX1_setRate_44 mM_0 (ci := 1) rfl rfl rfl rfl (by first | exact Nat.le_of_ble_eq_true rfl | simp [va_rf_c, Value.category]) (zhf (by omega) (by omega))) (fun r_44 μ_44 h_44 => ?_)
        obtain ⟨rfl, rfl⟩ := h_44
        refine z_imul hX dX1_setRate_47 ?_
        refine z_aload_n hX rfl (by first | rfl | exact va_rf_r _) dX1_setRate_48 ?_
        refine z_iload_n hX rfl dX1_setRate_49 ?_
        refine z_bipush hX (by decide) dX1_setRate_50 ?_
        refine z_calli (z_runV hX (m_of _ _ hD (by omega)) (cwV 2 hX.ts (lw_V q1529 q1531 qs34 q71 q1532) rfl rfl rfl (by decide +kernel) (zroom (by decide) (by decide))) dX1_setRate_52 mM_0 (ci := 1) rfl rfl rfl rfl (by first | exact Nat.le_of_ble_eq_true rfl | simp [va_rf_c, Value.category]) (zhf (by omega) (by omega))) (fun r_52 μ_52 h_52 => ?_)
        obtain ⟨rfl, rfl⟩ := h_52
        refine z_iadd hX dX1_setRate_55 ?_
        refine z_istore hX (lv' := [_, _, _, _, _]) (Nat.le_of_ble_eq_true rfl) (by first | exact zpre_0 | exact zpre_n rfl | exact zpre_1 rfl rfl | exact zpre_1 rfl (va_rf_c _)) rfl dX1_setRate_56 ?_
        refine z_aload_n hX rfl (by first | rfl | exact va_rf_r _) dX1_setRate_58 ?_
        refine zm_get hX 0 (by decide) q1370 dX1_setRate_59 rfl rfl ?_
        refine z_bipush hX (by decide) dX1_setRate_62 ?_
        refine z_iload_n hX rfl dX1_setRate_64 ?_
        refine z_imul hX dX1_setRate_65 ?_
        refine z_iconst hX dX1_setRate_66 ?_
        refine z_iadd hX dX1_setRate_67 ?_
        refine z_iload_n hX rfl dX1_setRate_68 ?_
        refine zm_iastore hX hD 0 (by decide) (by decide) 113 rfl dX1_setRate_69 (by omega) ?_
        refine z_aload_n hX rfl (by first | rfl | exact va_rf_r _) dX1_setRate_70 ?_
        refine zm_get hX 0 (by decide) q1370 dX1_setRate_71 rfl rfl ?_
        refine z_bipush hX (by decide) dX1_setRate_74 ?_
        refine z_iload_n hX rfl dX1_setRate_76 ?_
        refine z_imul hX dX1_setRate_77 ?_
        refine z_bipush hX (by decide) dX1_setRate_78 ?_
        refine z_iadd hX dX1_setRate_80 ?_
        refine z_iload_n hX rfl dX1_setRate_81 ?_
        refine zm_iastore hX hD 0 (by decide) (by decide) 113 rfl dX1_setRate_82 (by omega) ?_
        refine z_iload hX rfl dX1_setRate_83 ?_
        (try rw [← hQ])
        refine z_ireturn hX dX1_setRate_85 (by omega) (by omega) ?_
        rw [zg_zg, zg_s, e1]
        exact mP_i (by rw [sp_setRate, if_neg (fun q => q hok)]; rfl)
      · have hok : ¬ ((0 ≤ e ∧ e < A 0 112) ∧ rOK p ∧ rOK q) := by simp at h_29; omega
        refine z_ldc hX (z := -1000002) q1511 (by decide) dX1_setRate_32 ?_
        (try rw [← hQ])
        refine z_ireturn hX dX1_setRate_34 (by omega) (by omega) ?_
        exact mP_i (by rw [sp_setRate, if_pos hok]; rfl)
def sp_edge (s : Nat → Int) (A : Nat → Int → Int) (e w : Int) : mS := if (0 ≤ e ∧ e < A 0 112) ∧ 0 ≤ w ∧ w ≤ 6 then (A 0 (7 * e + w), s, A) else (gBAD, s, A)
theorem m_edge (l : Launch) (E : zE) {ν : zM} {m0 : Nat} {ad : Nat → Nat} {s : Nat → Int} {A : Nat → Int → Int} (hD : mD m0 ad) (hV : mV s A) {e w : Int} (he : iR e) (hw : iR w) : Met l yX1_edge (ws_ yX1_edge cX1_edge 3 (some .int)) (zR 2 0 0) (va_Pc [.ref m0, .int (zI e), .int (zI w)] (zPre E (mM E ν m0 ad s A))) (zQi E (mP E ν m0 ad (sp_edge s A e w))) 0 0 (zA E) := by
  have hn := hV.1.1
  refine zmet (cc := cX1_edge) [_, _, _] (by decide) (Nat.le_of_ble_eq_true rfl) rfl rfl ?_
  intro X hl hX hinit; subst hl
  have hX : zOK X _ cX1_edge RX1 (some .int) 3 := hX
  refine z_aload_n hX rfl (by first | rfl | exact va_rf_r _) dX1_edge_0 ?_
  refine z_iload_n hX rfl dX1_edge_1 ?_
  refine z_callb (z_runV hX (m_isEdge _ _ hD hn he) (cwV 1 hX.ts (lw_V q1521 q1523 qs33 q71 q1524) rfl rfl rfl (by decide +kernel) (zroom (by decide) (by decide))) dX1_edge_2 mM_0 (ci := 1) rfl rfl rfl rfl (by first | exact Nat.le_of_ble_eq_true rfl | simp [va_rf_c, Value.category]) (zhf (by omega) (by omega))) (fun r_2 μ_2 h_2 => ?_)
  obtain ⟨rfl, rfl⟩ := h_2
  refine z_if_eq_b hX dX1_edge_5 (tgt := 29) rfl (fun h_5 => ?_) (fun h_5 => ?_)
  · refine z_ldc hX (z := -1000002) q1511 (by decide) dX1_edge_29 ?_
    (try rw [← hQ])
    refine z_ireturn hX dX1_edge_31 (by omega) (by omega) ?_
    exact mP_i (by rw [sp_edge, if_neg (by simp at h_5; omega)]; rfl)
  · refine z_iload_n hX rfl dX1_edge_8 ?_
    refine z_i2l hX (by omega) dX1_edge_9 ?_
    refine z_lconst hX (z := 0) (by decide) dX1_edge_10 ?_
    refine z_ldc2_w hX (z := 6) q1542 (by decide) dX1_edge_11 ?_
    refine z_callb (z_runS hX (m_in _ _ _ (by omega) (by omega) (by omega)) (va_cwS 3 hX.ts (lw_S q1501 q1502 q71 q1503) rfl rfl rfl (by decide +kernel) (zroom (by decide) (by decide))) dX1_edge_14 rfl rfl rfl (by first | exact Nat.le_of_ble_eq_true rfl | simp [va_rf_c, Value.category]) (zhf (by omega) (by omega))) (fun r_14 μ_14 h_14 => ?_)
    obtain ⟨rfl, rfl⟩ := h_14
    refine z_if_eq_b hX dX1_edge_17 (tgt := 29) rfl (fun h_17 => ?_) (fun h_17 => ?_)
    · refine z_ldc hX (z := -1000002) q1511 (by decide) dX1_edge_29 ?_
      (try rw [← hQ])
      refine z_ireturn hX dX1_edge_31 (by omega) (by omega) ?_
      exact mP_i (by rw [sp_edge, if_neg (by simp at h_17; omega)]; rfl)
    · have hok : (0 ≤ e ∧ e < A 0 112) ∧ 0 ≤ w ∧ w ≤ 6 := by simp at h_5 h_17; omega
      refine z_aload_n hX rfl (by first | rfl | exact va_rf_r _) dX1_edge_20 ?_
      refine z_iload_n hX rfl dX1_edge_21 ?_
      refine z_iload_n hX rfl dX1_edge_22 ?_
      refine z_calli (z_runV hX (m_of _ _ hD (by omega)) (cwV 2 hX.ts (lw_V q1529 q1531 qs34 q71 q1532) rfl rfl rfl (by decide +kernel) (zroom (by decide) (by decide))) dX1_edge_23 mM_0 (ci := 1) rfl rfl rfl rfl (by first | exact Nat.le_of_ble_eq_true rfl | simp [va_rf_c, Value.category]) (zhf (by omega) (by omega))) (fun r_23 μ_23 h_23 => ?_)
      obtain ⟨rfl, rfl⟩ := h_23
      refine z_goto hX (tgt := 31) dX1_edge_26 rfl ?_
      (try rw [← hQ])
      refine z_ireturn hX dX1_edge_31 (by omega) (by omega) ?_
      exact mP_i (by rw [sp_edge, if_pos hok])
def sp_clear (s : Nat → Int) (A : Nat → Int → Int) : mS := (A 0 112, kS s, zg (zg A 1 (kpast s A)) 0 (zf (A 0) 112 0))
theorem m_clear (l : Launch) (E : zE) {ν : zM} {m0 : Nat} {ad : Nat → Nat} {s : Nat → Int} {A : Nat → Int → Int} (hD : mD m0 ad) (hV : mV s A) : Met l yX1_clear (ws_ yX1_clear cX1_clear 2 (some .int)) (zR 2 0 0) (va_Pc [.ref m0] (zPre E (mM E ν m0 ad s A))) (zQi E (mP E ν m0 ad (sp_clear s A))) 0 0 (zA E) := by
  have hu := hV.2.1
  have e1 : zg A 1 (kpast s A) 0 = A 0 := zg_n (by decide)
  refine zmet (cc := cX1_clear) [_, _] (by decide) (Nat.le_of_ble_eq_true rfl) rfl rfl ?_
  intro X hl hX hinit; subst hl
  have hX : zOK X _ cX1_clear RX1 (some .int) 2 := hX
  refine z_aload_n hX rfl (by first | rfl | exact va_rf_r _) dX1_clear_0 ?_
  refine z_callv (z_runV hX (m_keeps _ _ hD hu) (cwV 0 hX.ts (lw_V q1513 q1515 qs32 q71 q1516) rfl rfl rfl (by decide +kernel) (zroom (by decide) (by decide))) dX1_clear_1 mM_0 (ci := 1) rfl rfl rfl rfl (by first | exact Nat.le_of_ble_eq_true rfl | simp [va_rf_c, Value.category]) (zhf (by omega) (by omega))) (fun μ_1 h_1 => ?_)
  obtain rfl := h_1
  refine z_aload_n hX rfl (by first | rfl | exact va_rf_r _) dX1_clear_4 ?_
  refine zm_get hX 0 (by decide) q1370 dX1_clear_5 rfl rfl ?_
  refine z_bipush hX (by decide) dX1_clear_8 ?_
  refine zm_iaload hX hD 0 (by decide) (by decide) 113 rfl dX1_clear_10 (by omega) ?_
  refine z_istore_n hX (lv' := [_, _]) (Nat.le_of_ble_eq_true rfl) (by first | exact zpre_0 | exact zpre_n rfl | exact zpre_1 rfl rfl | exact zpre_1 rfl (va_rf_c _)) rfl dX1_clear_11 ?_
  refine z_aload_n hX rfl (by first | rfl | exact va_rf_r _) dX1_clear_12 ?_
  refine zm_get hX 0 (by decide) q1370 dX1_clear_13 rfl rfl ?_
  refine z_bipush hX (by decide) dX1_clear_16 ?_
  refine z_iconst hX dX1_clear_18 ?_
  refine zm_iastore hX hD 0 (by decide) (by decide) 113 rfl dX1_clear_19 (by omega) ?_
  refine z_iload_n hX rfl dX1_clear_20 ?_
  (try rw [← hQ])
  refine z_ireturn hX dX1_clear_21 (by omega) (by omega) ?_
  rw [e1]
  exact mP_i rfl
def sp_type (s : Nat → Int) (A : Nat → Int → Int) (c : Int) : mS := if ¬ (0 ≤ c ∧ c ≤ 127) then (gBAD, s, A) else if s 5 = 150 then (-1000004, s, A) else (s 5 + 1, zg s 5 (s 5 + 1), zg A 4 (zf (A 4) (s 5) c))
theorem m_type (l : Launch) (E : zE) {ν : zM} {m0 : Nat} {ad : Nat → Nat} {s : Nat → Int} {A : Nat → Int → Int} (hD : mD m0 ad) (hV : mV s A) {c : Int} (hc : iR c) : Met l yX1_type (ws_ yX1_type cX1_type 2 (some .int)) (zR 2 0 0) (va_Pc [.ref m0, .int (zI c)] (zPre E (mM E ν m0 ad s A))) (zQi E (mP E ν m0 ad (sp_type s A c))) 0 0 (zA E) := by
  have hn := hV.2.2.2.2.1
  refine zmet (cc := cX1_type) [_, _] (by decide) (Nat.le_of_ble_eq_true rfl) rfl rfl ?_
  intro X hl hX hinit; subst hl
  have hX : zOK X _ cX1_type RX1 (some .int) 2 := hX
  refine z_iload_n hX rfl dX1_type_0 ?_
  refine z_i2l hX (by omega) dX1_type_1 ?_
  refine z_lconst hX (z := 0) (by decide) dX1_type_2 ?_
  refine z_ldc2_w hX (z := 127) q1551 (by decide) dX1_type_3 ?_
  refine z_callb (z_runS hX (m_in _ _ _ (by omega) (by omega) (by omega)) (va_cwS 3 hX.ts (lw_S q1501 q1502 q71 q1503) rfl rfl rfl (by decide +kernel) (zroom (by decide) (by decide))) dX1_type_6 rfl rfl rfl (by first | exact Nat.le_of_ble_eq_true rfl | simp [va_rf_c, Value.category]) (zhf (by omega) (by omega))) (fun r_6 μ_6 h_6 => ?_)
  obtain ⟨rfl, rfl⟩ := h_6
  refine z_if_ne_b hX dX1_type_9 (tgt := 15) rfl (fun h_9 => ?_) (fun h_9 => ?_)
  · have hok : 0 ≤ c ∧ c ≤ 127 := by simpa using h_9
    refine z_aload_n hX rfl (by first | rfl | exact va_rf_r _) dX1_type_15 ?_
    refine zm_get hX 5 (by decide) q1375 dX1_type_16 rfl rfl ?_
    refine z_sipush hX (by decide) dX1_type_19 ?_
    refine z_icmp_ne hX (by omega) (by omega) dX1_type_22 (tgt := 28) rfl (fun h_22 => ?_) (fun h_22 => ?_)
    · refine z_aload_n hX rfl (by first | rfl | exact va_rf_r _) dX1_type_28 ?_
      refine zm_get hX 4 (by decide) q1374 dX1_type_29 rfl rfl ?_
      refine z_aload_n hX rfl (by first | rfl | exact va_rf_r _) dX1_type_32 ?_
      refine zm_get hX 5 (by decide) q1375 dX1_type_33 rfl rfl ?_
      refine z_iload_n hX rfl dX1_type_36 ?_
      refine zm_iastore hX hD 4 (by decide) (by decide) 150 rfl dX1_type_37 (by omega) ?_
      refine z_aload_n hX rfl (by first | rfl | exact va_rf_r _) dX1_type_38 ?_
      refine z_dup hX (by first | rfl | exact va_rf_c _) dX1_type_39 ?_
      refine zm_get hX 5 (by decide) q1375 dX1_type_40 rfl rfl ?_
      refine z_iconst hX dX1_type_43 ?_
      refine z_iadd hX dX1_type_44 ?_
      refine zm_puti hX hD 5 (by decide) q1375 dX1_type_45 rfl mset_5 ?_
      refine z_aload_n hX rfl (by first | rfl | exact va_rf_r _) dX1_type_48 ?_
      refine zm_get hX 5 (by decide) q1375 dX1_type_49 rfl rfl ?_
      (try rw [← hQ])
      refine z_ireturn hX dX1_type_52 (by omega) (by omega) ?_
      exact mP_i (by rw [sp_type, if_neg (fun q => q hok), if_neg h_22, zg_s])
    · refine z_ldc hX (z := -1000004) q1512 (by decide) dX1_type_25 ?_
      (try rw [← hQ])
      refine z_ireturn hX dX1_type_27 (by omega) (by omega) ?_
      exact mP_i (by rw [sp_type, if_neg (fun q => q hok), if_pos h_22])
  · refine z_ldc hX (z := -1000002) q1511 (by decide) dX1_type_12 ?_
    (try rw [← hQ])
    refine z_ireturn hX dX1_type_14 (by omega) (by omega) ?_
    exact mP_i (by rw [sp_type, if_pos (by simpa using h_9)]; rfl)
def sp_clearText (s : Nat → Int) (A : Nat → Int → Int) : mS := (s 5, zg s 5 0, A)
theorem m_clearText (l : Launch) (E : zE) {ν : zM} {m0 : Nat} {ad : Nat → Nat} {s : Nat → Int} {A : Nat → Int → Int} (hD : mD m0 ad) : Met l yX1_clearText (ws_ yX1_clearText cX1_clearText 2 (some .int)) (zR 2 0 0) (va_Pc [.ref m0] (zPre E (mM E ν m0 ad s A))) (zQi E (mP E ν m0 ad (sp_clearText s A))) 0 0 (zA E) := by
  refine zmet (cc := cX1_clearText) [_, _] (by decide) (Nat.le_of_ble_eq_true rfl) rfl rfl ?_
  intro X hl hX hinit; subst hl
  have hX : zOK X _ cX1_clearText RX1 (some .int) 2 := hX
  refine z_aload_n hX rfl (by first | rfl | exact va_rf_r _) dX1_clearText_0 ?_
  refine zm_get hX 5 (by decide) q1375 dX1_clearText_1 rfl rfl ?_
  refine z_istore_n hX (lv' := [_, _]) (Nat.le_of_ble_eq_true rfl) (by first | exact zpre_0 | exact zpre_n rfl | exact zpre_1 rfl rfl | exact zpre_1 rfl (va_rf_c _)) rfl dX1_clearText_4 ?_
  refine z_aload_n hX rfl (by first | rfl | exact va_rf_r _) dX1_clearText_5 ?_
  refine z_iconst hX dX1_clearText_6 ?_
  refine zm_puti hX hD 5 (by decide) q1375 dX1_clearText_7 rfl mset_5 ?_
  refine z_iload_n hX rfl dX1_clearText_10 ?_
  (try rw [← hQ])
  refine z_ireturn hX dX1_clearText_11 (by omega) (by omega) ?_
  exact mP_i rfl
def sp_finding (s : Nat → Int) (A : Nat → Int → Int) (i : Int) : mS := (if i < -1 then gBAD else if s 7 = -1000001 then -1000003 else if i = -1 then s 7 else if i < s 7 then A 6 i else -1000001, s, A)
theorem m_finding (l : Launch) (E : zE) {ν : zM} {m0 : Nat} {ad : Nat → Nat} {s : Nat → Int} {A : Nat → Int → Int} (hD : mD m0 ad) (hV : mV s A) {i : Int} (hi : iR i) : Met l yX1_finding (ws_ yX1_finding cX1_finding 2 (some .int)) (zR 2 0 0) (va_Pc [.ref m0, .int (zI i)] (zPre E (mM E ν m0 ad s A))) (zQi E (mP E ν m0 ad (sp_finding s A i))) 0 0 (zA E) := by
  have hn := hV.2.2.2.2.2.2.1
  refine zmet (cc := cX1_finding) [_, _] (by decide) (Nat.le_of_ble_eq_true rfl) rfl rfl ?_
  intro X hl hX hinit; subst hl
  have hX : zOK X _ cX1_finding RX1 (some .int) 2 := hX
  refine z_iload_n hX rfl dX1_finding_0 ?_
  refine z_iconst hX dX1_finding_1 ?_
  refine z_icmp_ge hX (by omega) (by omega) dX1_finding_2 (tgt := 8) rfl (fun h_2 => ?_) (fun h_2 => ?_)
  · refine z_aload_n hX rfl (by first | rfl | exact va_rf_r _) dX1_finding_8 ?_
    refine zm_get hX 7 (by decide) q1377 dX1_finding_9 rfl rfl ?_
    refine z_ldc hX (z := -1000001) q1369 (by decide) dX1_finding_12 ?_
    refine z_icmp_ne hX (by omega) (by omega) dX1_finding_14 (tgt := 20) rfl (fun h_14 => ?_) (fun h_14 => ?_)
    · refine z_iload_n hX rfl dX1_finding_20 ?_
      refine z_iconst hX dX1_finding_21 ?_
      refine z_icmp_ne hX (by omega) (by omega) dX1_finding_22 (tgt := 32) rfl (fun h_22 => ?_) (fun h_22 => ?_)
      · refine z_iload_n hX rfl dX1_finding_32 ?_
        refine z_aload_n hX rfl (by first | rfl | exact va_rf_r _) dX1_finding_33 ?_
        refine zm_get hX 7 (by decide) q1377 dX1_finding_34 rfl rfl ?_
        refine z_icmp_ge hX (by omega) (by omega) dX1_finding_37 (tgt := 49) rfl (fun h_37 => ?_) (fun h_37 => ?_)
        · refine z_ldc hX (z := -1000001) q1369 (by decide) dX1_finding_49 ?_
          (try rw [← hQ])
          refine z_ireturn hX dX1_finding_51 (by omega) (by omega) ?_
          exact mP_i (by rw [sp_finding, if_neg (by omega), if_neg h_14, if_neg h_22, if_neg (by omega)])
        · refine z_aload_n hX rfl (by first | rfl | exact va_rf_r _) dX1_finding_40 ?_
          refine zm_get hX 6 (by decide) q1376 dX1_finding_41 rfl rfl ?_
          refine z_iload_n hX rfl dX1_finding_44 ?_
          refine zm_iaload hX hD 6 (by decide) (by decide) 8 rfl dX1_finding_45 (by omega) ?_
          refine z_goto hX (tgt := 51) dX1_finding_46 rfl ?_
          (try rw [← hQ])
          refine z_ireturn hX dX1_finding_51 (by omega) (by omega) ?_
          exact mP_i (by rw [sp_finding, if_neg (by omega), if_neg h_14, if_neg h_22, if_pos (by omega)])
      · refine z_aload_n hX rfl (by first | rfl | exact va_rf_r _) dX1_finding_25 ?_
        refine zm_get hX 7 (by decide) q1377 dX1_finding_26 rfl rfl ?_
        refine z_goto hX (tgt := 51) dX1_finding_29 rfl ?_
        (try rw [← hQ])
        refine z_ireturn hX dX1_finding_51 (by omega) (by omega) ?_
        exact mP_i (by rw [sp_finding, if_neg (by omega), if_neg h_14, if_pos h_22])
    · refine z_ldc hX (z := -1000003) q1492 (by decide) dX1_finding_17 ?_
      (try rw [← hQ])
      refine z_ireturn hX dX1_finding_19 (by omega) (by omega) ?_
      exact mP_i (by rw [sp_finding, if_neg (by omega), if_pos h_14])
  · refine z_ldc hX (z := -1000002) q1511 (by decide) dX1_finding_5 ?_
    (try rw [← hQ])
    refine z_ireturn hX dX1_finding_7 (by omega) (by omega) ?_
    exact mP_i (by rw [sp_finding, if_pos (by omega)]; rfl)
def sp_value (s : Nat → Int) (A : Nat → Int → Int) (w : Int) : mS := (if ¬ (0 ≤ w ∧ w ≤ 1) then gBAD else if s 7 = -1000001 then -1000003 else if w = 0 then s 8 else s 9, s, A)
theorem m_value (l : Launch) (E : zE) {ν : zM} {m0 : Nat} {ad : Nat → Nat} {s : Nat → Int} {A : Nat → Int → Int} (hD : mD m0 ad) (hV : mV s A) {w : Int} (hw : iR w) : Met l yX1_value (ws_ yX1_value cX1_value 2 (some .long)) (zR 2 0 0) (va_Pc [.ref m0, .int (zI w)] (zPre E (mM E ν m0 ad s A))) (zQl E (mP E ν m0 ad (sp_value s A w))) 0 0 (zA E) := by
  have hn := hV.2.2.2.2.2.2.1
  refine zmet (cc := cX1_value) [_, _] (by decide) (Nat.le_of_ble_eq_true rfl) rfl rfl ?_
  intro X hl hX hinit; subst hl
  have hX : zOK X _ cX1_value RX1 (some .long) 2 := hX
  refine z_iload_n hX rfl dX1_value_0 ?_
  refine z_i2l hX (by omega) dX1_value_1 ?_
  refine z_lconst hX (z := 0) (by decide) dX1_value_2 ?_
  refine z_lconst hX (z := 1) (by decide) dX1_value_3 ?_
  refine z_callb (z_runS hX (m_in _ _ _ (by omega) (by omega) (by omega)) (va_cwS 3 hX.ts (lw_S q1501 q1502 q71 q1503) rfl rfl rfl (by decide +kernel) (zroom (by decide) (by decide))) dX1_value_4 rfl rfl rfl (by first | exact Nat.le_of_ble_eq_true rfl | simp [va_rf_c, Value.category]) (zhf (by omega) (by omega))) (fun r_4 μ_4 h_4 => ?_)
  obtain ⟨rfl, rfl⟩ := h_4
  refine z_if_ne_b hX dX1_value_7 (tgt := 14) rfl (fun h_7 => ?_) (fun h_7 => ?_)
  · have hok : 0 ≤ w ∧ w ≤ 1 := by simpa using h_7
    refine z_aload_n hX rfl (by first | rfl | exact va_rf_r _) dX1_value_14 ?_
    refine zm_get hX 7 (by decide) q1377 dX1_value_15 rfl rfl ?_
    refine z_ldc hX (z := -1000001) q1369 (by decide) dX1_value_18 ?_
    refine z_icmp_ne hX (by omega) (by omega) dX1_value_20 (tgt := 29) rfl (fun h_20 => ?_) (fun h_20 => ?_)
    · refine z_iload_n hX rfl dX1_value_29 ?_
      refine z_if_ne hX (by omega) dX1_value_30 (tgt := 40) rfl (fun h_30 => ?_) (fun h_30 => ?_)
      · refine z_aload_n hX rfl (by first | rfl | exact va_rf_r _) dX1_value_40 ?_
        refine zm_get hX 9 (by decide) q1379 dX1_value_41 rfl rfl ?_
        (try rw [← hQ])
        refine z_lreturn hX dX1_value_44 (by omega) (by omega) ?_
        exact mP_i (by rw [sp_value, if_neg (fun q => q hok), if_neg h_20, if_neg h_30])
      · refine z_aload_n hX rfl (by first | rfl | exact va_rf_r _) dX1_value_33 ?_
        refine zm_get hX 8 (by decide) q1378 dX1_value_34 rfl rfl ?_
        refine z_goto hX (tgt := 44) dX1_value_37 rfl ?_
        (try rw [← hQ])
        refine z_lreturn hX dX1_value_44 (by omega) (by omega) ?_
        exact mP_i (by rw [sp_value, if_neg (fun q => q hok), if_neg h_20, if_pos h_30])
    · refine z_ldc2_w hX (z := -1000003) q1670 (by decide) dX1_value_23 ?_
      refine z_goto hX (tgt := 44) dX1_value_26 rfl ?_
      (try rw [← hQ])
      refine z_lreturn hX dX1_value_44 (by omega) (by omega) ?_
      exact mP_i (by rw [sp_value, if_neg (fun q => q hok), if_pos h_20])
  · refine z_ldc2_w hX (z := -1000002) q1669 (by decide) dX1_value_10 ?_
    (try rw [← hQ])
    refine z_lreturn hX dX1_value_13 (by omega) (by omega) ?_
    exact mP_i (by rw [sp_value, if_pos (by simpa using h_7)]; rfl)
def sp_mark (s : Nat → Int) (A : Nat → Int → Int) (v x : Int) : mS := if ¬ ((0 ≤ v ∧ v ≤ 7) ∧ -100000 ≤ x ∧ x ≤ 100000) then (gBAD, s, A) else (A 3 v, s, zg A 3 (zf (A 3) v x))
theorem m_mark (l : Launch) (E : zE) {ν : zM} {m0 : Nat} {ad : Nat → Nat} {s : Nat → Int} {A : Nat → Int → Int} (hD : mD m0 ad) {v x : Int} (hv : iR v) (hx : iR x) : Met l yX1_mark (ws_ yX1_mark cX1_mark 4 (some .int)) (zR 2 0 0) (va_Pc [.ref m0, .int (zI v), .int (zI x)] (zPre E (mM E ν m0 ad s A))) (zQi E (mP E ν m0 ad (sp_mark s A v x))) 0 0 (zA E) := by
  refine zmet (cc := cX1_mark) [_, _, _, _] (by decide) (Nat.le_of_ble_eq_true rfl) rfl rfl ?_
  intro X hl hX hinit; subst hl
  have hX : zOK X _ cX1_mark RX1 (some .int) 4 := hX
  refine z_iload_n hX rfl dX1_mark_0 ?_
  refine z_callb (z_runS hX (m_isNode _ _ _ hv) (va_cwS 1 hX.ts (lw_S q1497 q1498 q71 q1499) rfl rfl rfl (by decide +kernel) (zroom (by decide) (by decide))) dX1_mark_1 rfl rfl rfl (by first | exact Nat.le_of_ble_eq_true rfl | simp [va_rf_c, Value.category]) (zhf (by omega) (by omega))) (fun r_1 μ_1 h_1 => ?_)
  obtain ⟨rfl, rfl⟩ := h_1
  refine z_if_eq_b hX dX1_mark_4 (tgt := 21) rfl (fun h_4 => ?_) (fun h_4 => ?_)
  · refine z_ldc hX (z := -1000002) q1511 (by decide) dX1_mark_21 ?_
    (try rw [← hQ])
    refine z_ireturn hX dX1_mark_23 (by omega) (by omega) ?_
    exact mP_i (by rw [sp_mark, if_pos (by simp at h_4; omega)]; rfl)
  · refine z_iload_n hX rfl dX1_mark_7 ?_
    refine z_i2l hX (by omega) dX1_mark_8 ?_
    refine z_ldc2_w hX (z := -100000) q1693 (by decide) dX1_mark_9 ?_
    refine z_ldc2_w hX (z := 100000) q1694 (by decide) dX1_mark_12 ?_
    refine z_callb (z_runS hX (m_in _ _ _ (by omega) (by omega) (by omega)) (va_cwS 3 hX.ts (lw_S q1501 q1502 q71 q1503) rfl rfl rfl (by decide +kernel) (zroom (by decide) (by decide))) dX1_mark_15 rfl rfl rfl (by first | exact Nat.le_of_ble_eq_true rfl | simp [va_rf_c, Value.category]) (zhf (by omega) (by omega))) (fun r_15 μ_15 h_15 => ?_)
    obtain ⟨rfl, rfl⟩ := h_15
    refine z_if_ne_b hX dX1_mark_18 (tgt := 24) rfl (fun h_18 => ?_) (fun h_18 => ?_)
    · have hok : (0 ≤ v ∧ v ≤ 7) ∧ -100000 ≤ x ∧ x ≤ 100000 := by simp at h_4 h_18; omega
      refine z_aload_n hX rfl (by first | rfl | exact va_rf_r _) dX1_mark_24 ?_
      refine zm_get hX 3 (by decide) q1373 dX1_mark_25 rfl rfl ?_
      refine z_iload_n hX rfl dX1_mark_28 ?_
      refine zm_iaload hX hD 3 (by decide) (by decide) 8 rfl dX1_mark_29 (by omega) ?_
      refine z_istore_n hX (lv' := [_, _, _, _]) (Nat.le_of_ble_eq_true rfl) (by first | exact zpre_0 | exact zpre_n rfl | exact zpre_1 rfl rfl | exact zpre_1 rfl (va_rf_c _)) rfl dX1_mark_30 ?_
      refine z_aload_n hX rfl (by first | rfl | exact va_rf_r _) dX1_mark_31 ?_
      refine zm_get hX 3 (by decide) q1373 dX1_mark_32 rfl rfl ?_
      refine z_iload_n hX rfl dX1_mark_35 ?_
      refine z_iload_n hX rfl dX1_mark_36 ?_
      refine zm_iastore hX hD 3 (by decide) (by decide) 8 rfl dX1_mark_37 (by omega) ?_
      refine z_iload_n hX rfl dX1_mark_38 ?_
      (try rw [← hQ])
      refine z_ireturn hX dX1_mark_39 (by omega) (by omega) ?_
      exact mP_i (by rw [sp_mark, if_neg (fun q => q hok)])
    · refine z_ldc hX (z := -1000002) q1511 (by decide) dX1_mark_21 ?_
      (try rw [← hQ])
      refine z_ireturn hX dX1_mark_23 (by omega) (by omega) ?_
      exact mP_i (by rw [sp_mark, if_pos (by simp at h_18; omega)]; rfl)

/-- the first edge that the marks disprove, from e on -/
def dpr (A : Nat → Int → Int) (p q : Int) : List Int → Int
  | [] => -1
  | e :: es => if A 3 (A 0 (7 * e)) + q * A 0 (7 * e + 2) - p < A 3 (A 0 (7 * e + 1)) then e else dpr A p q es
def sp_disproof (s : Nat → Int) (A : Nat → Int → Int) (p q : Int) : mS := (if ¬ ((-9999 ≤ p ∧ p ≤ 9999) ∧ 1 ≤ q ∧ q ≤ 99) then gBAD else dpr A p q (er 0 (A 0 112)), s, A)
theorem mul_r {q w M N : Int} (hq : -M ≤ q ∧ q ≤ M) (hw : -N ≤ w ∧ w ≤ N) : -(M * N) ≤ q * w ∧ q * w ≤ M * N := by
  have hM : 0 ≤ M := by omega
  have hN : 0 ≤ N := by omega
  constructor
  · by_cases h : 0 ≤ w
    · have h1 : (-M) * w ≤ q * w := Int.mul_le_mul_of_nonneg_right hq.1 h
      have h2 : M * w ≤ M * N := Int.mul_le_mul_of_nonneg_left hw.2 hM
      have h3 : (-M) * w = -(M * w) := Int.neg_mul _ _
      omega
    · have h1 : M * w ≤ q * w := by
        have := Int.mul_le_mul_of_nonpos_right hq.2 (show w ≤ 0 by omega)
        exact this
      have h2 : M * (-N) ≤ M * w := Int.mul_le_mul_of_nonneg_left hw.1 hM
      have h3 : M * (-N) = -(M * N) := Int.mul_neg _ _
      omega
  · by_cases h : 0 ≤ w
    · have h1 : q * w ≤ M * w := Int.mul_le_mul_of_nonneg_right hq.2 h
      have h2 : M * w ≤ M * N := Int.mul_le_mul_of_nonneg_left hw.2 hM
      omega
    · have h1 : q * w ≤ (-M) * w := by
        have := Int.mul_le_mul_of_nonpos_right hq.1 (show w ≤ 0 by omega)
        exact this
      have h2 : M * (-w) ≤ M * N := Int.mul_le_mul_of_nonneg_left (by omega) hM
      have h3 : (-M) * w = M * (-w) := by rw [Int.neg_mul, Int.mul_neg]
      omega
theorem m_disproof (l : Launch) (E : zE) {ν : zM} {m0 : Nat} {ad : Nat → Nat} {s : Nat → Int} {A : Nat → Int → Int} (hD : mD m0 ad) (hV : mV s A) {p q : Int} (hp : iR p) (hq : iR q) : Met l yX1_disproof (ws_ yX1_disproof cX1_disproof 4 (some .int)) (zR 2 0 0) (va_Pc [.ref m0, .int (zI p), .int (zI q)] (zPre E (mM E ν m0 ad s A))) (zQi E (mP E ν m0 ad (sp_disproof s A p q))) 0 0 (zA E) := by
  have hn := hV.1.1
  have hg := hV.1.2
  have hmk := hV.2.2.2.1
  refine zmet (cc := cX1_disproof) [_, _, _, _] (by decide) (Nat.le_of_ble_eq_true rfl) rfl rfl ?_
  intro X hl hX hinit; subst hl
  have hX : zOK X _ cX1_disproof RX1 (some .int) 4 := hX
  generalize hQ : MQ _ _ _ _ _ _ _ = Q
  refine z_iload_n hX rfl dX1_disproof_0 ?_
  refine z_i2l hX (by omega) dX1_disproof_1 ?_
  refine z_ldc2_w hX (z := -9999) q1699 (by decide) dX1_disproof_2 ?_
  refine z_ldc2_w hX (z := 9999) q1700 (by decide) dX1_disproof_5 ?_
  refine z_callb (z_runS hX (m_in _ _ _ (by omega) (by omega) (by omega)) (va_cwS 3 hX.ts (lw_S q1501 q1502 q71 q1503) rfl rfl rfl (by decide +kernel) (zroom (by decide) (by decide))) dX1_disproof_8 rfl rfl rfl (by first | exact Nat.le_of_ble_eq_true rfl | simp [va_rf_c, Value.category]) (zhf (by omega) (by omega))) (fun r_8 μ_8 h_8 => ?_)
  obtain ⟨rfl, rfl⟩ := h_8
  refine z_if_eq_b hX dX1_disproof_11 (tgt := 26) rfl (fun h_11 => ?_) (fun h_11 => ?_)
  · refine z_ldc hX (z := -1000002) q1511 (by decide) dX1_disproof_26 ?_
    (try rw [← hQ])
    refine z_ireturn hX dX1_disproof_28 (by omega) (by omega) ?_
    exact mP_i (by rw [sp_disproof, if_pos (by simp at h_11; omega)]; rfl)
  · refine z_iload_n hX rfl dX1_disproof_14 ?_
    refine z_i2l hX (by omega) dX1_disproof_15 ?_
    refine z_lconst hX (z := 1) (by decide) dX1_disproof_16 ?_
    refine z_ldc2_w hX (z := 99) q1508 (by decide) dX1_disproof_17 ?_
    refine z_callb (z_runS hX (m_in _ _ _ (by omega) (by omega) (by omega)) (va_cwS 3 hX.ts (lw_S q1501 q1502 q71 q1503) rfl rfl rfl (by decide +kernel) (zroom (by decide) (by decide))) dX1_disproof_20 rfl rfl rfl (by first | exact Nat.le_of_ble_eq_true rfl | simp [va_rf_c, Value.category]) (zhf (by omega) (by omega))) (fun r_20 μ_20 h_20 => ?_)
    obtain ⟨rfl, rfl⟩ := h_20
    refine z_if_ne_b hX dX1_disproof_23 (tgt := 29) rfl (fun h_23 => ?_) (fun h_23 => ?_)
    · have hok : (-9999 ≤ p ∧ p ≤ 9999) ∧ 1 ≤ q ∧ q ≤ 99 := by simp at h_11 h_23; omega
      have loop : ∀ (n : Nat) (i : Int), 0 ≤ i → i ≤ A 0 112 → A 0 112 < i + n → dpr A p q (er 0 (A 0 112)) = dpr A p q (er i (A 0 112)) → zW X (zR 2 0 0) E (mM E ν m0 ad s A) 0 0 Q 31 [some (.ref m0), some (.int (zI p)), some (.int (zI q)), some (.int (zI i))] [] := by
        intro n
        induction n with
        | zero => intros; exfalso; omega
        | succ n ih =>
          intro i h0 h1 hn2 he
          refine z_iload_n hX rfl dX1_disproof_31 ?_
          refine z_aload_n hX rfl (by first | rfl | exact va_rf_r _) dX1_disproof_32 ?_
          refine zm_get hX 0 (by decide) q1370 dX1_disproof_33 rfl rfl ?_
          refine z_bipush hX (by decide) dX1_disproof_36 ?_
          refine zm_iaload hX hD 0 (by decide) (by decide) 113 rfl dX1_disproof_38 (by omega) ?_
          refine z_icmp_ge hX (by omega) (by omega) dX1_disproof_39 (tgt := 86) rfl (fun h_39 => ?_) (fun h_39 => ?_)
          · obtain rfl : i = A 0 112 := by omega
            refine z_iconst hX dX1_disproof_86 ?_
            (try rw [← hQ])
            refine z_ireturn hX dX1_disproof_87 (by omega) (by omega) ?_
            refine mP_i ?_
            rw [sp_disproof, if_neg (fun r => r hok), he, er_nil (Int.le_refl _)]
            rfl
          · have hv := hg i h0 (by omega)
            unfold eV at hv
            have h3 := hmk (A 0 (7 * i)) (by omega) (by omega)
            have h4 := hmk (A 0 (7 * i + 1)) (by omega) (by omega)
            have h5 := mul_r (M := 99) (N := 99) (show -99 ≤ q ∧ q ≤ 99 by omega) hv.2.2.1
            refine z_aload_n hX rfl (by first | rfl | exact va_rf_r _) dX1_disproof_42 ?_
            refine zm_get hX 3 (by decide) q1373 dX1_disproof_43 rfl rfl ?_
            refine z_aload_n hX rfl (by first | rfl | exact va_rf_r _) dX1_disproof_46 ?_
            refine z_iload_n hX rfl dX1_disproof_47 ?_
            refine z_iconst hX dX1_disproof_48 ?_
            refine z_calli (z_runV hX (m_of0 _ _ hD (by omega)) (cwV 2 hX.ts (lw_V q1529 q1531 qs34 q71 q1532) rfl rfl rfl (by decide +kernel) (zroom (by decide) (by decide))) dX1_disproof_49 mM_0 (ci := 1) rfl rfl rfl rfl (by first | exact Nat.le_of_ble_eq_true rfl | simp [va_rf_c, Value.category]) (zhf (by omega) (by omega))) (fun r_49 μ_49 h_49 => ?_)
            obtain ⟨rfl, rfl⟩ := h_49
            refine zm_iaload hX hD 3 (by decide) (by decide) 8 rfl dX1_disproof_52 (by omega) ?_
            refine z_iload_n hX rfl dX1_disproof_53 ?_
            refine z_aload_n hX rfl (by first | rfl | exact va_rf_r _) dX1_disproof_54 ?_
            refine z_iload_n hX rfl dX1_disproof_55 ?_
            refine z_iconst hX dX1_disproof_56 ?_
            refine z_calli (z_runV hX (m_of _ _ hD (by omega)) (cwV 2 hX.ts (lw_V q1529 q1531 qs34 q71 q1532) rfl rfl rfl (by decide +kernel) (zroom (by decide) (by decide))) dX1_disproof_57 mM_0 (ci := 1) rfl rfl rfl rfl (by first | exact Nat.le_of_ble_eq_true rfl | simp [va_rf_c, Value.category]) (zhf (by omega) (by omega))) (fun r_57 μ_57 h_57 => ?_)
            obtain ⟨rfl, rfl⟩ := h_57
            refine z_imul hX dX1_disproof_60 ?_
            refine z_iadd hX dX1_disproof_61 ?_
            refine z_iload_n hX rfl dX1_disproof_62 ?_
            refine z_isub hX dX1_disproof_63 ?_
            refine z_aload_n hX rfl (by first | rfl | exact va_rf_r _) dX1_disproof_64 ?_
            refine zm_get hX 3 (by decide) q1373 dX1_disproof_65 rfl rfl ?_
            refine z_aload_n hX rfl (by first | rfl | exact va_rf_r _) dX1_disproof_68 ?_
            refine z_iload_n hX rfl dX1_disproof_69 ?_
            refine z_iconst hX dX1_disproof_70 ?_
            refine z_calli (z_runV hX (m_of _ _ hD (by omega)) (cwV 2 hX.ts (lw_V q1529 q1531 qs34 q71 q1532) rfl rfl rfl (by decide +kernel) (zroom (by decide) (by decide))) dX1_disproof_71 mM_0 (ci := 1) rfl rfl rfl rfl (by first | exact Nat.le_of_ble_eq_true rfl | simp [va_rf_c, Value.category]) (zhf (by omega) (by omega))) (fun r_71 μ_71 h_71 => ?_)
            obtain ⟨rfl, rfl⟩ := h_71
            refine zm_iaload hX hD 3 (by decide) (by decide) 8 rfl dX1_disproof_74 (by omega) ?_
            refine z_icmp_ge hX (by omega) (by omega) dX1_disproof_75 (tgt := 80) rfl (fun h_75 => ?_) (fun h_75 => ?_)
            · rw [er_cons (show i < A 0 112 by omega), dpr, if_neg (by omega)] at he
              refine z_iinc hX (lv' := [_, _, _, _]) rfl (Nat.le_of_ble_eq_true rfl) (by first | exact zpre_0 | exact zpre_n rfl | exact zpre_1 rfl rfl | exact zpre_1 rfl (va_rf_c _)) rfl dX1_disproof_80 ?_
              refine z_goto hX (tgt := 31) dX1_disproof_83 rfl ?_
              exact ih (i + 1) (by omega) (by omega) (by omega) he
            · rw [er_cons (show i < A 0 112 by omega), dpr, if_pos (by omega)] at he
              refine z_iload_n hX rfl dX1_disproof_78 ?_
              (try rw [← hQ])
              refine z_ireturn hX dX1_disproof_79 (by omega) (by omega) ?_
              exact mP_i (by rw [sp_disproof, if_neg (fun r => r hok), he])
      refine z_iconst hX dX1_disproof_29 ?_
      refine z_istore_n hX (lv' := [_, _, _, _]) (Nat.le_of_ble_eq_true rfl) (by first | exact zpre_0 | exact zpre_n rfl | exact zpre_1 rfl rfl | exact zpre_1 rfl (va_rf_c _)) rfl dX1_disproof_30 ?_
      exact loop (A 0 112 + 1).toNat 0 (by omega) (by omega) (by omega) rfl
    · refine z_ldc hX (z := -1000002) q1511 (by decide) dX1_disproof_26 ?_
      (try rw [← hQ])
      refine z_ireturn hX dX1_disproof_28 (by omega) (by omega) ?_
      exact mP_i (by rw [sp_disproof, if_pos (by simp at h_23; omega)]; rfl)
def sp_piece (s : Nat → Int) (A : Nat → Int → Int) (i w : Int) : mS := (if i < 0 ∨ ¬ (0 ≤ w ∧ w ≤ 3) then gBAD else if s 12 = 0 then -1000003 else if i < s 11 then A 10 (4 * i + w) else -1000001, s, A)
theorem m_piece (l : Launch) (E : zE) {ν : zM} {m0 : Nat} {ad : Nat → Nat} {s : Nat → Int} {A : Nat → Int → Int} (hD : mD m0 ad) (hV : mV s A) {i w : Int} (hi : iR i) (hw : iR w) : Met l yX1_piece (ws_ yX1_piece cX1_piece 3 (some .long)) (zR 2 0 0) (va_Pc [.ref m0, .int (zI i), .int (zI w)] (zPre E (mM E ν m0 ad s A))) (zQl E (mP E ν m0 ad (sp_piece s A i w))) 0 0 (zA E) := by
  have hk := hV.2.2.2.2.2.2.2
  refine zmet (cc := cX1_piece) [_, _, _] (by decide) (Nat.le_of_ble_eq_true rfl) rfl rfl ?_
  intro X hl hX hinit; subst hl
  have hX : zOK X _ cX1_piece RX1 (some .long) 3 := hX
  refine z_iload_n hX rfl dX1_piece_0 ?_
  refine z_if_lt hX (by omega) dX1_piece_1 (tgt := 16) rfl (fun h_1 => ?_) (fun h_1 => ?_)
  · refine z_ldc2_w hX (z := -1000002) q1669 (by decide) dX1_piece_16 ?_
    (try rw [← hQ])
    refine z_lreturn hX dX1_piece_19 (by omega) (by omega) ?_
    exact mP_i (by rw [sp_piece, if_pos (by omega)]; rfl)
  · refine z_iload_n hX rfl dX1_piece_4 ?_
    refine z_i2l hX (by omega) dX1_piece_5 ?_
    refine z_lconst hX (z := 0) (by decide) dX1_piece_6 ?_
    refine z_ldc2_w hX (z := 3) q1744 (by decide) dX1_piece_7 ?_
    refine z_callb (z_runS hX (m_in _ _ _ (by omega) (by omega) (by omega)) (va_cwS 3 hX.ts (lw_S q1501 q1502 q71 q1503) rfl rfl rfl (by decide +kernel) (zroom (by decide) (by decide))) dX1_piece_10 rfl rfl rfl (by first | exact Nat.le_of_ble_eq_true rfl | simp [va_rf_c, Value.category]) (zhf (by omega) (by omega))) (fun r_10 μ_10 h_10 => ?_)
    obtain ⟨rfl, rfl⟩ := h_10
    refine z_if_ne_b hX dX1_piece_13 (tgt := 20) rfl (fun h_13 => ?_) (fun h_13 => ?_)
    · have hok : 0 ≤ w ∧ w ≤ 3 := by simpa using h_13
      refine z_aload_n hX rfl (by first | rfl | exact va_rf_r _) dX1_piece_20 ?_
      refine zm_get hX 12 (by decide) q1382 dX1_piece_21 rfl rfl ?_
      refine z_if_ne hX (by omega) dX1_piece_24 (tgt := 31) rfl (fun h_24 => ?_) (fun h_24 => ?_)
      · refine z_iload_n hX rfl dX1_piece_31 ?_
        refine z_aload_n hX rfl (by first | rfl | exact va_rf_r _) dX1_piece_32 ?_
        refine zm_get hX 11 (by decide) q1381 dX1_piece_33 rfl rfl ?_
        refine z_icmp_ge hX (by omega) (by omega) dX1_piece_36 (tgt := 52) rfl (fun h_36 => ?_) (fun h_36 => ?_)
        · refine z_ldc2_w hX (z := -1000001) q1684 (by decide) dX1_piece_52 ?_
          (try rw [← hQ])
          refine z_lreturn hX dX1_piece_55 (by omega) (by omega) ?_
          exact mP_i (by rw [sp_piece, if_neg (by omega), if_neg h_24, if_neg (by omega)])
        · refine z_aload_n hX rfl (by first | rfl | exact va_rf_r _) dX1_piece_39 ?_
          refine zm_get hX 10 (by decide) q1380 dX1_piece_40 rfl rfl ?_
          refine z_iconst hX dX1_piece_43 ?_
          refine z_iload_n hX rfl dX1_piece_44 ?_
          refine z_imul hX dX1_piece_45 ?_
          refine z_iload_n hX rfl dX1_piece_46 ?_
          refine z_iadd hX dX1_piece_47 ?_
          refine zm_laload hX hD 10 (by decide) (by decide) 512 rfl dX1_piece_48 (by omega) ?_
          refine z_goto hX (tgt := 55) dX1_piece_49 rfl ?_
          (try rw [← hQ])
          refine z_lreturn hX dX1_piece_55 (by omega) (by omega) ?_
          exact mP_i (by rw [sp_piece, if_neg (by omega), if_neg h_24, if_pos (by omega)])
      · refine z_ldc2_w hX (z := -1000003) q1670 (by decide) dX1_piece_27 ?_
        (try rw [← hQ])
        refine z_lreturn hX dX1_piece_30 (by omega) (by omega) ?_
        exact mP_i (by rw [sp_piece, if_neg (by omega), if_pos h_24])
    · refine z_ldc2_w hX (z := -1000002) q1669 (by decide) dX1_piece_16 ?_
      (try rw [← hQ])
      refine z_lreturn hX dX1_piece_19 (by omega) (by omega) ?_
      exact mP_i (by rw [sp_piece, if_pos (by simp at h_13; omega)]; rfl)
theorem m_mixes (l : Launch) (E : zE) {ν : zM} {m0 : Nat} {ad : Nat → Nat} {s : Nat → Int} {A : Nat → Int → Int} (hD : mD m0 ad) {v : Int} : Met l yX1_mixes (ws_ yX1_mixes cX1_mixes 3 none) (zR 0 0 0) (va_Pc [.ref m0, .long (zJ v)] (zPre E (mM E ν m0 ad s A))) (zQv E (fun μ' => mM E ν m0 ad (zg s 38 (31 * s 38 + v)) A = μ')) 0 0 (zA E) := by
  refine zmet (cc := cX1_mixes) [_, _, _] (by decide) (Nat.le_of_ble_eq_true rfl) rfl rfl ?_
  intro X hl hX hinit; subst hl
  have hX : zOK X _ cX1_mixes RX1 none 3 := hX
  refine z_aload_n hX rfl (by first | rfl | exact va_rf_r _) dX1_mixes_0 ?_
  refine z_ldc2_w hX (z := 31) q1779 (by decide) dX1_mixes_1 ?_
  refine z_aload_n hX rfl (by first | rfl | exact va_rf_r _) dX1_mixes_4 ?_
  refine zm_get hX 38 (by decide) q1408 dX1_mixes_5 rfl rfl ?_
  refine z_lmul hX dX1_mixes_8 ?_
  refine z_lload_n hX rfl dX1_mixes_9 ?_
  refine z_ladd hX dX1_mixes_10 ?_
  refine zm_putl hX hD 38 (by decide) q1408 dX1_mixes_11 rfl mset_38 ?_
  (try rw [← hQ])
  refine z_return hX dX1_mixes_14 (by omega) (by omega) ?_
  rfl
/-- the sum of a part over edges -/
def esum (a : Int → Int) (w : Int) (es : List Int) : Int := (es.map (fun e => a (7 * e + w))).sum
theorem esum_r {a : Int → Int} {w M : Int} : ∀ (es : List Int), (∀ e ∈ es, -M ≤ a (7 * e + w) ∧ a (7 * e + w) ≤ M) → -(M * es.length) ≤ esum a w es ∧ esum a w es ≤ M * es.length
  | [], _ => by simp [esum]
  | e :: es, h => by
    have h1 := esum_r es (fun x hx => h x (List.mem_cons_of_mem _ hx))
    have h2 := h e List.mem_cons_self
    simp only [esum, List.map_cons, List.sum_cons, List.length_cons] at h1 ⊢
    have h3 : M * ((es.length + 1 : Nat) : Int) = M * es.length + M := by
      rw [Int.natCast_add, Int.mul_add]; simp
    omega
theorem m_weights (l : Launch) (E : zE) {ν : zM} {m0 : Nat} {ad : Nat → Nat} {s : Nat → Int} {A : Nat → Int → Int} (hD : mD m0 ad) (hV : mV s A) : Met l yX1_weights (ws_ yX1_weights cX1_weights 3 (some .int)) (zR 2 0 0) (va_Pc [.ref m0] (zPre E (mM E ν m0 ad s A))) (zQi E (fun r μ' => mM E ν m0 ad s A = μ' ∧ esum (A 0) 2 (er 0 (A 0 112)) = r)) 0 0 (zA E) := by
  have hn := hV.1.1
  refine zmet (cc := cX1_weights) [_, _, _] (by decide) (Nat.le_of_ble_eq_true rfl) rfl rfl ?_
  intro X hl hX hinit; subst hl
  have hX : zOK X _ cX1_weights RX1 (some .int) 3 := hX
  generalize hQ : MQ _ _ _ _ _ _ _ = Q
  have loop : ∀ (n : Nat) (i : Int), 0 ≤ i → i ≤ A 0 112 → A 0 112 < i + n → ∀ c, c + esum (A 0) 2 (er i (A 0 112)) = esum (A 0) 2 (er 0 (A 0 112)) → zW X (zR 2 0 0) E (mM E ν m0 ad s A) 0 0 Q 4 [some (.ref m0), some (.int (zI c)), some (.int (zI i))] [] := by
    intro n
    induction n with
    | zero => intros; exfalso; omega
    | succ n ih =>
      intro i h0 h1 hn2 c hc
      refine z_iload_n hX rfl dX1_weights_4 ?_
      refine z_aload_n hX rfl (by first | rfl | exact va_rf_r _) dX1_weights_5 ?_
      refine zm_get hX 0 (by decide) q1370 dX1_weights_6 rfl rfl ?_
      refine z_bipush hX (by decide) dX1_weights_9 ?_
      refine zm_iaload hX hD 0 (by decide) (by decide) 113 rfl dX1_weights_11 (by omega) ?_
      refine z_icmp_ge hX (by omega) (by omega) dX1_weights_12 (tgt := 30) rfl (fun h_12 => ?_) (fun h_12 => ?_)
      · obtain rfl : i = A 0 112 := by omega
        rw [er_nil (Int.le_refl _)] at hc
        refine z_iload_n hX rfl dX1_weights_30 ?_
        (try rw [← hQ])
        refine z_ireturn hX dX1_weights_31 (by omega) (by omega) ?_
        exact ⟨rfl, by simp [esum] at hc ⊢; omega⟩
      · rw [er_cons (show i < A 0 112 by omega)] at hc
        simp only [esum, List.map_cons, List.sum_cons] at hc
        refine z_iload_n hX rfl dX1_weights_15 ?_
        refine z_aload_n hX rfl (by first | rfl | exact va_rf_r _) dX1_weights_16 ?_
        refine z_iload_n hX rfl dX1_weights_17 ?_
        refine z_iconst hX dX1_weights_18 ?_
        refine z_calli (z_runV hX (m_of _ _ hD (by omega)) (cwV 2 hX.ts (lw_V q1529 q1531 qs34 q71 q1532) rfl rfl rfl (by decide +kernel) (zroom (by decide) (by decide))) dX1_weights_19 mM_0 (ci := 1) rfl rfl rfl rfl (by first | exact Nat.le_of_ble_eq_true rfl | simp [va_rf_c, Value.category]) (zhf (by omega) (by omega))) (fun r_19 μ_19 h_19 => ?_)
        obtain ⟨rfl, rfl⟩ := h_19
        refine z_iadd hX dX1_weights_22 ?_
        refine z_istore_n hX (lv' := [_, _, _]) (Nat.le_of_ble_eq_true rfl) (by first | exact zpre_0 | exact zpre_n rfl | exact zpre_1 rfl rfl | exact zpre_1 rfl (va_rf_c _)) rfl dX1_weights_23 ?_
        refine z_iinc hX (lv' := [_, _, _]) rfl (Nat.le_of_ble_eq_true rfl) (by first | exact zpre_0 | exact zpre_n rfl | exact zpre_1 rfl rfl | exact zpre_1 rfl (va_rf_c _)) rfl dX1_weights_24 ?_
        refine z_goto hX (tgt := 4) dX1_weights_27 rfl ?_
        exact ih (i + 1) (by omega) (by omega) (by omega) _ (by simp only [esum]; omega)
  refine z_iconst hX dX1_weights_0 ?_
  refine z_istore_n hX (lv' := [_, _, _]) (Nat.le_of_ble_eq_true rfl) (by first | exact zpre_0 | exact zpre_n rfl | exact zpre_1 rfl rfl | exact zpre_1 rfl (va_rf_c _)) rfl dX1_weights_1 ?_
  refine z_iconst hX dX1_weights_2 ?_
  refine z_istore_n hX (lv' := [_, _, _]) (Nat.le_of_ble_eq_true rfl) (by first | exact zpre_0 | exact zpre_n rfl | exact zpre_1 rfl rfl | exact zpre_1 rfl (va_rf_c _)) rfl dX1_weights_3 ?_
  exact loop (A 0 112 + 1).toNat 0 (by omega) (by omega) (by omega) 0 (by omega)
