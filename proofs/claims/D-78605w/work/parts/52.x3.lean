/-! X SIDE 3: nodes, edges -/
set_option maxRecDepth 100000
def ndB (n : Nat) (f : Int → Int) : Bool := (er 0 n).all (fun j => decide (0 ≤ f j ∧ f j ≤ 7))
theorem x_areNodes (l : Launch) (E : zE) {μ : zM} {a n : Nat} {f : Int → Int} (ha : μ a = some (zai E n f)) (hn : n ≤ 8) (hf : ∀ j, iR (f j)) : Met l yX0_areNodes (ws_ yX0_areNodes cX0_areNodes 6 (some .boolean)) (zR 1 0 0) (va_Pc [.ref a] (zPre E μ)) (zQb E (fun r μ' => μ = μ' ∧ ndB n f = r)) 0 0 (zA E) := by
  refine zmet (cc := cX0_areNodes) [_, _, _, _, _, _] (by decide) (Nat.le_of_ble_eq_true rfl) rfl rfl ?_
  intro X hl hX hinit; subst hl
  have hX : zOK X _ cX0_areNodes RX0 (some .boolean) 6 := hX
  generalize hQ : MQ _ _ _ _ _ _ _ = Q
  have loop : ∀ (k : Nat) (i : Int) (b : Bool), 0 ≤ i → i ≤ n → n < i + k → (b && (er i n).all (fun j => decide (0 ≤ f j ∧ f j ≤ 7))) = ndB n f → ∀ y, zW X (zR 1 0 0) E (μ) 0 0 Q 10 [some (.ref a), some (.int (zI (zb b))), some (.ref a), some (.int (zI (n : Int))), some (.int (zI i)), y] [] := by
    intro k
    induction k with
    | zero => intros; exfalso; omega
    | succ k ih =>
      intro i b h0 h1 hk he y
      refine zW.mask [true, true, true, true, true, false] (lv' := [_, _, _, _, _, none]) rfl ?_
      refine z_iload hX rfl dX0_areNodes_10 ?_
      refine z_iload_n hX rfl dX0_areNodes_12 ?_
      refine z_icmp_ge hX (by omega) (by omega) dX0_areNodes_13 (tgt := 41) rfl (fun h_13 => ?_) (fun h_13 => ?_)
      · rw [er_nil (by omega), List.all_nil, Bool.and_true] at he
        refine z_iload_n hX rfl dX0_areNodes_41 ?_
        (try rw [← hQ])
        first | refine z_breturn hX true dX0_areNodes_42 (by omega) (by omega) ?_ | refine z_breturn hX false dX0_areNodes_42 (by omega) (by omega) ?_ | refine z_breturn hX _ dX0_areNodes_42 (by omega) (by omega) ?_
        exact ⟨rfl, he.symm⟩
      · rw [er_cons (show i < n by omega), List.all_cons, ← Bool.and_assoc] at he
        have h2 := hf i
        refine z_aload_n hX rfl (by first | rfl | exact va_rf_r _) dX0_areNodes_16 ?_
        refine z_iload hX rfl dX0_areNodes_17 ?_
        refine z_iaload hX dX0_areNodes_19 (by first | assumption | exact zu_s _ _ _ | exact zu_o (by assumption) (by assumption) | exact zu_o (by assumption) (zu_o (by assumption) (by assumption))) (by omega) ?_
        refine z_istore hX (lv' := [_, _, _, _, _, _]) (Nat.le_of_ble_eq_true rfl) (by first | exact zpre_0 | exact zpre_n rfl | exact zpre_1 rfl rfl | exact zpre_1 rfl (va_rf_c _)) rfl dX0_areNodes_20 ?_
        refine z_iload_n hX rfl dX0_areNodes_22 ?_
        refine z_iload hX rfl dX0_areNodes_23 ?_
        refine z_i2l hX (by omega) dX0_areNodes_25 ?_
        refine z_lconst hX (z := 0) (by decide) dX0_areNodes_26 ?_
        refine z_ldc2_w hX (z := 7) q196 (by decide) dX0_areNodes_27 ?_
        refine z_callb (z_runS hX (x_isIn _ _ _ (by unfold lR; omega) (by unfold lR; omega) (by unfold lR; omega)) (va_cwS 3 hX.ts (lw_S q197 q198 q65 q199) rfl rfl rfl (by decide +kernel) (zroom (by decide) (by decide))) dX0_areNodes_30 rfl rfl rfl (by first | exact Nat.le_of_ble_eq_true rfl | simp [va_rf_c, Value.category]) (zhf (by omega) (by omega))) (fun r_30 μ_30 h_30 => ?_)
        obtain ⟨rfl, rfl⟩ := h_30
        refine z_iand_b hX dX0_areNodes_33 ?_
        refine z_istore_n hX (lv' := [_, _, _, _, _, _]) (Nat.le_of_ble_eq_true rfl) (by first | exact zpre_0 | exact zpre_n rfl | exact zpre_1 rfl rfl | exact zpre_1 rfl (va_rf_c _)) rfl dX0_areNodes_34 ?_
        refine z_iinc hX (lv' := [_, _, _, _, _, _]) rfl (Nat.le_of_ble_eq_true rfl) (by first | exact zpre_0 | exact zpre_n rfl | exact zpre_1 rfl rfl | exact zpre_1 rfl (va_rf_c _)) rfl dX0_areNodes_35 ?_
        refine z_goto hX (tgt := 10) dX0_areNodes_38 rfl ?_
        exact ih (i + 1) _ (by omega) (by omega) (by omega) he _
  refine z_iconst hX dX0_areNodes_0 ?_
  refine z_istore_n hX (lv' := [_, _, _, _, _, _]) (Nat.le_of_ble_eq_true rfl) (by first | exact zpre_0 | exact zpre_n rfl | exact zpre_1 rfl rfl | exact zpre_1 rfl (va_rf_c _)) rfl dX0_areNodes_1 ?_
  refine z_aload_n hX rfl (by first | rfl | exact va_rf_r _) dX0_areNodes_2 ?_
  refine z_astore_n hX (lv' := [_, _, _, _, _, _]) (by first | rfl | exact va_rf_r _) (Nat.le_of_ble_eq_true rfl) (by first | exact zpre_0 | exact zpre_n rfl | exact zpre_1 rfl rfl | exact zpre_1 rfl (va_rf_c _)) rfl dX0_areNodes_3 ?_
  refine z_aload_n hX rfl (by first | rfl | exact va_rf_r _) dX0_areNodes_4 ?_
  refine z_arraylength hX (t0 := 0) dX0_areNodes_5 ha rfl ?_
  refine z_istore_n hX (lv' := [_, _, _, _, _, _]) (Nat.le_of_ble_eq_true rfl) (by first | exact zpre_0 | exact zpre_n rfl | exact zpre_1 rfl rfl | exact zpre_1 rfl (va_rf_c _)) rfl dX0_areNodes_6 ?_
  refine z_iconst hX dX0_areNodes_7 ?_
  refine z_istore hX (lv' := [_, _, _, _, _, _]) (Nat.le_of_ble_eq_true rfl) (by first | exact zpre_0 | exact zpre_n rfl | exact zpre_1 rfl rfl | exact zpre_1 rfl (va_rf_c _)) rfl dX0_areNodes_8 ?_
  exact loop (n + 1) 0 true (by omega) (by omega) (by omega) (by rw [Bool.true_and]; rfl) _
abbrev zed (g : Int → Int) : va_E := zob 2 [.int (zI (g 0)), .int (zI (g 1)), .int (zI (g 2)), .int (zI (g 3)), .int (zI (g 4)), .int (zI (g 5)), .int (zI (g 6))]
theorem x_edI (l : Launch) (E : zE) {μ : zM} {a : Nat} {g0 : Int → Int} (ha : μ a = some (zed g0)) {g : Int → Int} : Met l yX2_init_2 (ws_ yX2_init_2 cX2_init_2 8 none) (zR 1 0 0) (va_Pc [.ref a, .int (zI (g 0)), .int (zI (g 1)), .int (zI (g 2)), .int (zI (g 3)), .int (zI (g 4)), .int (zI (g 5)), .int (zI (g 6))] (zPre E μ)) (zQv E (fun μ' => zu μ a (zed g) = μ')) 0 0 (zA E) := by
  refine zmet (cc := cX2_init_2) [_, _, _, _, _, _, _, _] (by decide) (Nat.le_of_ble_eq_true rfl) rfl rfl ?_
  intro X hl hX hinit; subst hl
  have hX : zOK X _ cX2_init_2 RX2 none 8 := hX
  refine z_aload_n hX rfl (by first | rfl | exact va_rf_r _) dX2_init_2_0 ?_
  refine z_objInit hX q333 dX2_init_2_1 rfl ⟨Nat.le_of_ble_eq_true rfl, Nat.le_of_ble_eq_true rfl⟩ (by first | exact Nat.le_of_ble_eq_true rfl | simp [va_rf_c, Value.category]) ?_
  refine z_aload_n hX rfl (by first | rfl | exact va_rf_r _) dX2_init_2_4 ?_
  refine z_iload_n hX rfl dX2_init_2_5 ?_
  refine z_putF hX hinit (C := RX2) (T := TX2) (N := 7) (ci := 2) rfl in_X2 tyX2 tyX2_ok zn_X2 0 (by decide) q334 (Or.inl rfl) rfl rfl rfl dX2_init_2_6 (by first | assumption | exact zu_s _ _ _ | exact zu_o (by assumption) (by assumption) | exact zu_o (by assumption) (zu_o (by assumption) (by assumption))) (Nat.le_of_ble_eq_true rfl) (by first | rfl | exact znar _ | exact znarb _) (by first | rfl | exact zfit _ | exact zfitb _) rfl ?_
  refine z_aload_n hX rfl (by first | rfl | exact va_rf_r _) dX2_init_2_9 ?_
  refine z_iload_n hX rfl dX2_init_2_10 ?_
  refine z_putF hX hinit (C := RX2) (T := TX2) (N := 7) (ci := 2) rfl in_X2 tyX2 tyX2_ok zn_X2 1 (by decide) q339 (Or.inl rfl) rfl rfl rfl dX2_init_2_11 (by first | assumption | exact zu_s _ _ _ | exact zu_o (by assumption) (by assumption) | exact zu_o (by assumption) (zu_o (by assumption) (by assumption))) (Nat.le_of_ble_eq_true rfl) (by first | rfl | exact znar _ | exact znarb _) (by first | rfl | exact zfit _ | exact zfitb _) rfl ?_
  refine z_aload_n hX rfl (by first | rfl | exact va_rf_r _) dX2_init_2_14 ?_
  refine z_iload_n hX rfl dX2_init_2_15 ?_
  refine z_putF hX hinit (C := RX2) (T := TX2) (N := 7) (ci := 2) rfl in_X2 tyX2 tyX2_ok zn_X2 2 (by decide) q345 (Or.inl rfl) rfl rfl rfl dX2_init_2_16 (by first | assumption | exact zu_s _ _ _ | exact zu_o (by assumption) (by assumption) | exact zu_o (by assumption) (zu_o (by assumption) (by assumption))) (Nat.le_of_ble_eq_true rfl) (by first | rfl | exact znar _ | exact znarb _) (by first | rfl | exact zfit _ | exact zfitb _) rfl ?_
  refine z_aload_n hX rfl (by first | rfl | exact va_rf_r _) dX2_init_2_19 ?_
  refine z_iload hX rfl dX2_init_2_20 ?_
  refine z_putF hX hinit (C := RX2) (T := TX2) (N := 7) (ci := 2) rfl in_X2 tyX2 tyX2_ok zn_X2 3 (by decide) q348 (Or.inl rfl) rfl rfl rfl dX2_init_2_22 (by first | assumption | exact zu_s _ _ _ | exact zu_o (by assumption) (by assumption) | exact zu_o (by assumption) (zu_o (by assumption) (by assumption))) (Nat.le_of_ble_eq_true rfl) (by first | rfl | exact znar _ | exact znarb _) (by first | rfl | exact zfit _ | exact zfitb _) rfl ?_
  refine z_aload_n hX rfl (by first | rfl | exact va_rf_r _) dX2_init_2_25 ?_
  refine z_iload hX rfl dX2_init_2_26 ?_
  refine z_putF hX hinit (C := RX2) (T := TX2) (N := 7) (ci := 2) rfl in_X2 tyX2 tyX2_ok zn_X2 4 (by decide) q350 (Or.inl rfl) rfl rfl rfl dX2_init_2_28 (by first | assumption | exact zu_s _ _ _ | exact zu_o (by assumption) (by assumption) | exact zu_o (by assumption) (zu_o (by assumption) (by assumption))) (Nat.le_of_ble_eq_true rfl) (by first | rfl | exact znar _ | exact znarb _) (by first | rfl | exact zfit _ | exact zfitb _) rfl ?_
  refine z_aload_n hX rfl (by first | rfl | exact va_rf_r _) dX2_init_2_31 ?_
  refine z_iload hX rfl dX2_init_2_32 ?_
  refine z_putF hX hinit (C := RX2) (T := TX2) (N := 7) (ci := 2) rfl in_X2 tyX2 tyX2_ok zn_X2 5 (by decide) q352 (Or.inl rfl) rfl rfl rfl dX2_init_2_34 (by first | assumption | exact zu_s _ _ _ | exact zu_o (by assumption) (by assumption) | exact zu_o (by assumption) (zu_o (by assumption) (by assumption))) (Nat.le_of_ble_eq_true rfl) (by first | rfl | exact znar _ | exact znarb _) (by first | rfl | exact zfit _ | exact zfitb _) rfl ?_
  refine z_aload_n hX rfl (by first | rfl | exact va_rf_r _) dX2_init_2_37 ?_
  refine z_iload hX rfl dX2_init_2_38 ?_
  refine z_putF hX hinit (C := RX2) (T := TX2) (N := 7) (ci := 2) rfl in_X2 tyX2 tyX2_ok zn_X2 6 (by decide) q356 (Or.inl rfl) rfl rfl rfl dX2_init_2_40 (by first | assumption | exact zu_s _ _ _ | exact zu_o (by assumption) (by assumption) | exact zu_o (by assumption) (zu_o (by assumption) (by assumption))) (Nat.le_of_ble_eq_true rfl) (by first | rfl | exact znar _ | exact znarb _) (by first | rfl | exact zfit _ | exact zfitb _) rfl ?_
  (try rw [← hQ])
  refine z_return hX dX2_init_2_43 (by omega) (by omega) ?_
  simp only [zu_zu]
  rfl
def fitB (w v : Int) : Bool := decide (w = 2 ∧ -99 ≤ v ∧ v ≤ 99 ∨ w = 3 ∧ -9 ≤ v ∧ v ≤ 9 ∨ w = 4 ∧ 1 ≤ v ∧ v ≤ 9)
theorem x_fits (l : Launch) (E : zE) (μ : zM) {w v : Int} (hw : iR w) (hv : iR v) : Met l yX2_fits (ws_ yX2_fits cX2_fits 2 (some .boolean)) (zR 1 0 0) (va_Pc [.int (zI w), .int (zI v)] (zPre E μ)) (zQb E (fun r μ' => μ = μ' ∧ fitB w v = r)) 0 0 (zA E) := by
  refine zmet (cc := cX2_fits) [_, _] (by decide) (Nat.le_of_ble_eq_true rfl) rfl rfl ?_
  intro X hl hX hinit; subst hl
  have hX : zOK X _ cX2_fits RX2 (some .boolean) 2 := hX
  generalize hQ : MQ _ _ _ _ _ _ _ = Q
  refine z_iload_n hX rfl dX2_fits_0 ?_
  by_cases h2 : w = 2
  · subst h2
    refine z_tableIn hX (off := 27) (tgt := 28) (by omega) (by omega) (by omega) (by rfl) dX2_fits_1 rfl ?_
    refine z_iload_n hX rfl dX2_fits_28 ?_
    refine z_i2l hX (by omega) dX2_fits_29 ?_
    refine z_ldc2_w hX (z := -99) q203 (by decide) dX2_fits_30 ?_
    refine z_ldc2_w hX (z := 99) q204 (by decide) dX2_fits_33 ?_
    refine z_callb (z_runSN hX (x_isIn _ _ _ (by unfold lR; omega) (by unfold lR; omega) (by unfold lR; omega)) ⟨va_cnB 3 hX.ts (lw_meth q199) rfl rfl rfl (hX.nw q205 rfl) (hX.t q65) (by decide +kernel) (zroom (by decide) (by decide)), hX.t q198, trivial⟩ dX2_fits_36 rfl rfl rfl (by first | exact Nat.le_of_ble_eq_true rfl | simp [va_rf_c, Value.category]) (zhf (by omega) (by omega))) (fun r_36 μ_36 h_36 => ?_)
    obtain ⟨rfl, rfl⟩ := h_36
    (try rw [← hQ])
    first | refine z_breturn hX true dX2_fits_39 (by omega) (by omega) ?_ | refine z_breturn hX false dX2_fits_39 (by omega) (by omega) ?_ | refine z_breturn hX _ dX2_fits_39 (by omega) (by omega) ?_
    exact ⟨rfl, by unfold fitB; exact decide_eq_decide.mpr (by omega)⟩
  by_cases h3 : w = 3
  · subst h3
    refine z_tableIn hX (off := 39) (tgt := 40) (by omega) (by omega) (by omega) (by rfl) dX2_fits_1 rfl ?_
    refine z_iload_n hX rfl dX2_fits_40 ?_
    refine z_i2l hX (by omega) dX2_fits_41 ?_
    refine z_ldc2_w hX (z := -9) q206 (by decide) dX2_fits_42 ?_
    refine z_ldc2_w hX (z := 9) q207 (by decide) dX2_fits_45 ?_
    refine z_callb (z_runSN hX (x_isIn _ _ _ (by unfold lR; omega) (by unfold lR; omega) (by unfold lR; omega)) ⟨va_cnB 3 hX.ts (lw_meth q199) rfl rfl rfl (hX.nw q205 rfl) (hX.t q65) (by decide +kernel) (zroom (by decide) (by decide)), hX.t q198, trivial⟩ dX2_fits_48 rfl rfl rfl (by first | exact Nat.le_of_ble_eq_true rfl | simp [va_rf_c, Value.category]) (zhf (by omega) (by omega))) (fun r_48 μ_48 h_48 => ?_)
    obtain ⟨rfl, rfl⟩ := h_48
    (try rw [← hQ])
    first | refine z_breturn hX true dX2_fits_51 (by omega) (by omega) ?_ | refine z_breturn hX false dX2_fits_51 (by omega) (by omega) ?_ | refine z_breturn hX _ dX2_fits_51 (by omega) (by omega) ?_
    exact ⟨rfl, by unfold fitB; exact decide_eq_decide.mpr (by omega)⟩
  by_cases h4 : w = 4
  · subst h4
    refine z_tableIn hX (off := 51) (tgt := 52) (by omega) (by omega) (by omega) (by rfl) dX2_fits_1 rfl ?_
    refine z_iload_n hX rfl dX2_fits_52 ?_
    refine z_i2l hX (by omega) dX2_fits_53 ?_
    refine z_lconst hX (z := 1) (by decide) dX2_fits_54 ?_
    refine z_ldc2_w hX (z := 9) q207 (by decide) dX2_fits_55 ?_
    refine z_callb (z_runSN hX (x_isIn _ _ _ (by unfold lR; omega) (by unfold lR; omega) (by unfold lR; omega)) ⟨va_cnB 3 hX.ts (lw_meth q199) rfl rfl rfl (hX.nw q205 rfl) (hX.t q65) (by decide +kernel) (zroom (by decide) (by decide)), hX.t q198, trivial⟩ dX2_fits_58 rfl rfl rfl (by first | exact Nat.le_of_ble_eq_true rfl | simp [va_rf_c, Value.category]) (zhf (by omega) (by omega))) (fun r_58 μ_58 h_58 => ?_)
    obtain ⟨rfl, rfl⟩ := h_58
    (try rw [← hQ])
    first | refine z_breturn hX true dX2_fits_61 (by omega) (by omega) ?_ | refine z_breturn hX false dX2_fits_61 (by omega) (by omega) ?_ | refine z_breturn hX _ dX2_fits_61 (by omega) (by omega) ?_
    exact ⟨rfl, by unfold fitB; exact decide_eq_decide.mpr (by omega)⟩
  · refine z_tableOut hX (tgt := 62) (by omega) (by omega) dX2_fits_1 rfl ?_
    refine z_iconst hX dX2_fits_62 ?_
    (try rw [← hQ])
    first | refine z_breturn hX true dX2_fits_63 (by omega) (by omega) ?_ | refine z_breturn hX false dX2_fits_63 (by omega) (by omega) ?_ | refine z_breturn hX _ dX2_fits_63 (by omega) (by omega) ?_
    exact ⟨rfl, by unfold fitB; exact decide_eq_false (by omega)⟩
def ptF (g : Int → Int) (w : Int) : Int := if 0 ≤ w ∧ w ≤ 5 then g w else g 6
theorem x_part (l : Launch) (E : zE) {μ : zM} {a : Nat} {g : Int → Int} (ha : μ a = some (zed g)) {w : Int} (hw : iR w) : Met l yX2_part (ws_ yX2_part cX2_part 2 (some .int)) (zR 1 0 0) (va_Pc [.ref a, .int (zI w)] (zPre E μ)) (zQi E (fun r μ' => μ = μ' ∧ ptF g w = r)) 0 0 (zA E) := by
  refine zmet (cc := cX2_part) [_, _] (by decide) (Nat.le_of_ble_eq_true rfl) rfl rfl ?_
  intro X hl hX hinit; subst hl
  have hX : zOK X _ cX2_part RX2 (some .int) 2 := hX
  generalize hQ : MQ _ _ _ _ _ _ _ = Q
  refine z_iload_n hX rfl dX2_part_0 ?_
  by_cases h0 : w = 0
  · subst h0
    refine z_tableIn hX (off := 39) (tgt := 40) (by omega) (by omega) (by omega) (by rfl) dX2_part_1 rfl ?_
    refine z_aload_n hX rfl (by first | rfl | exact va_rf_r _) dX2_part_40 ?_
    refine z_get hX (C := RX2) (T := TX2) (N := 7) (ci := 2) rfl in_X2 0 (by decide) q334 (Or.inl rfl) dX2_part_41 (by first | assumption | exact zu_s _ _ _ | exact zu_o (by assumption) (by assumption) | exact zu_o (by assumption) (zu_o (by assumption) (by assumption))) rfl ?_
    (try rw [← hQ])
    refine z_ireturn hX dX2_part_44 (by omega) (by omega) ?_
    exact ⟨rfl, by rw [ptF, if_pos (by omega)]⟩
  by_cases h1 : w = 1
  · subst h1
    refine z_tableIn hX (off := 44) (tgt := 45) (by omega) (by omega) (by omega) (by rfl) dX2_part_1 rfl ?_
    refine z_aload_n hX rfl (by first | rfl | exact va_rf_r _) dX2_part_45 ?_
    refine z_get hX (C := RX2) (T := TX2) (N := 7) (ci := 2) rfl in_X2 1 (by decide) q339 (Or.inl rfl) dX2_part_46 (by first | assumption | exact zu_s _ _ _ | exact zu_o (by assumption) (by assumption) | exact zu_o (by assumption) (zu_o (by assumption) (by assumption))) rfl ?_
    (try rw [← hQ])
    refine z_ireturn hX dX2_part_49 (by omega) (by omega) ?_
    exact ⟨rfl, by rw [ptF, if_pos (by omega)]⟩
  by_cases h2 : w = 2
  · subst h2
    refine z_tableIn hX (off := 49) (tgt := 50) (by omega) (by omega) (by omega) (by rfl) dX2_part_1 rfl ?_
    refine z_aload_n hX rfl (by first | rfl | exact va_rf_r _) dX2_part_50 ?_
    refine z_get hX (C := RX2) (T := TX2) (N := 7) (ci := 2) rfl in_X2 2 (by decide) q345 (Or.inl rfl) dX2_part_51 (by first | assumption | exact zu_s _ _ _ | exact zu_o (by assumption) (by assumption) | exact zu_o (by assumption) (zu_o (by assumption) (by assumption))) rfl ?_
    (try rw [← hQ])
    refine z_ireturn hX dX2_part_54 (by omega) (by omega) ?_
    exact ⟨rfl, by rw [ptF, if_pos (by omega)]⟩
  by_cases h3 : w = 3
  · subst h3
    refine z_tableIn hX (off := 54) (tgt := 55) (by omega) (by omega) (by omega) (by rfl) dX2_part_1 rfl ?_
    refine z_aload_n hX rfl (by first | rfl | exact va_rf_r _) dX2_part_55 ?_
    refine z_get hX (C := RX2) (T := TX2) (N := 7) (ci := 2) rfl in_X2 3 (by decide) q348 (Or.inl rfl) dX2_part_56 (by first | assumption | exact zu_s _ _ _ | exact zu_o (by assumption) (by assumption) | exact zu_o (by assumption) (zu_o (by assumption) (by assumption))) rfl ?_
    (try rw [← hQ])
    refine z_ireturn hX dX2_part_59 (by omega) (by omega) ?_
    exact ⟨rfl, by rw [ptF, if_pos (by omega)]⟩
  by_cases h4 : w = 4
  · subst h4
    refine z_tableIn hX (off := 59) (tgt := 60) (by omega) (by omega) (by omega) (by rfl) dX2_part_1 rfl ?_
    refine z_aload_n hX rfl (by first | rfl | exact va_rf_r _) dX2_part_60 ?_
    refine z_get hX (C := RX2) (T := TX2) (N := 7) (ci := 2) rfl in_X2 4 (by decide) q350 (Or.inl rfl) dX2_part_61 (by first | assumption | exact zu_s _ _ _ | exact zu_o (by assumption) (by assumption) | exact zu_o (by assumption) (zu_o (by assumption) (by assumption))) rfl ?_
    (try rw [← hQ])
    refine z_ireturn hX dX2_part_64 (by omega) (by omega) ?_
    exact ⟨rfl, by rw [ptF, if_pos (by omega)]⟩
  by_cases h5 : w = 5
  · subst h5
    refine z_tableIn hX (off := 64) (tgt := 65) (by omega) (by omega) (by omega) (by rfl) dX2_part_1 rfl ?_
    refine z_aload_n hX rfl (by first | rfl | exact va_rf_r _) dX2_part_65 ?_
    refine z_get hX (C := RX2) (T := TX2) (N := 7) (ci := 2) rfl in_X2 5 (by decide) q352 (Or.inl rfl) dX2_part_66 (by first | assumption | exact zu_s _ _ _ | exact zu_o (by assumption) (by assumption) | exact zu_o (by assumption) (zu_o (by assumption) (by assumption))) rfl ?_
    (try rw [← hQ])
    refine z_ireturn hX dX2_part_69 (by omega) (by omega) ?_
    exact ⟨rfl, by rw [ptF, if_pos (by omega)]⟩
  · refine z_tableOut hX (tgt := 70) (by omega) (by omega) dX2_part_1 rfl ?_
    refine z_aload_n hX rfl (by first | rfl | exact va_rf_r _) dX2_part_70 ?_
    refine z_get hX (C := RX2) (T := TX2) (N := 7) (ci := 2) rfl in_X2 6 (by decide) q356 (Or.inl rfl) dX2_part_71 (by first | assumption | exact zu_s _ _ _ | exact zu_o (by assumption) (by assumption) | exact zu_o (by assumption) (zu_o (by assumption) (by assumption))) rfl ?_
    (try rw [← hQ])
    refine z_ireturn hX dX2_part_74 (by omega) (by omega) ?_
    exact ⟨rfl, by rw [ptF, if_neg (by omega)]⟩
theorem x_with (l : Launch) (E : zE) {μ : zM} {a : Nat} {g : Int → Int} (ha : μ a = some (zed g)) {w v : Int} (hw : iR w) (h24 : 2 ≤ w ∧ w ≤ 4) : Met l yX2_with (ws_ yX2_with cX2_with 3 (some (.object "RatioGraph$Edge"))) (zR 2 1 7) (va_Pc [.ref a, .int (zI w), .int (zI v)] (zPre E μ)) (zQq E (fun r μ' => ∃ b, μ b = none ∧ zu μ b (zed (zf g w v)) = μ' ∧ some b = r)) 1 7 (zA E) := by
  refine zmet (cc := cX2_with) [_, _, _] (by decide) (Nat.le_of_ble_eq_true rfl) rfl rfl ?_
  intro X hl hX hinit; subst hl
  have hX : zOK X _ cX2_with RX2 (some (.object "RatioGraph$Edge")) 3 := hX
  generalize hQ : MQ _ _ _ _ _ _ _ = Q
  refine z_new hX (C := RX2) (T := TX2) (N := 7) (ci := 2) rfl in_X2 tyX2 tyX2_ok q443 q326 q72 dX2_with_0 (fs := [.int (zI 0), .int (zI 0), .int (zI 0), .int (zI 0), .int (zI 0), .int (zI 0), .int (zI 0)]) (by decide) (by omega) (by omega) (fun q_0 f_0 => ?_)
  have hne := zne ha f_0
  have e0 : zf g w v 0 = g 0 := zf_n (by omega)
  have e1 : zf g w v 1 = g 1 := zf_n (by omega)
  have e5 : zf g w v 5 = g 5 := zf_n (by omega)
  have e6 : zf g w v 6 = g 6 := zf_n (by omega)
  have e2 : w ≠ 2 → zf g w v 2 = g 2 := fun h => zf_n (by omega)
  have e3 : w ≠ 3 → zf g w v 3 = g 3 := fun h => zf_n (by omega)
  have e4 : w ≠ 4 → zf g w v 4 = g 4 := fun h => zf_n (by omega)
  have es : zf g w v w = v := zf_s _ _ _
  have hI := x_edI (zXl X) E (zu_s μ q_0 (zed (fun _ => 0))) (g := zf g w v)
  rw [e0, e1, e5, e6] at hI
  have hc : w = 2 ∨ w = 3 ∨ w = 4 := by omega
  rcases hc with rfl | rfl | rfl
  · rw [e3 (by decide), e4 (by decide), es] at hI
    refine z_dup hX (by first | rfl | exact va_rf_c _) dX2_with_3 ?_
    refine z_aload_n hX rfl (by first | rfl | exact va_rf_r _) dX2_with_4 ?_
    refine z_get hX (C := RX2) (T := TX2) (N := 7) (ci := 2) rfl in_X2 0 (by decide) q334 (Or.inl rfl) dX2_with_5 (by first | assumption | exact zu_s _ _ _ | exact zu_o (by assumption) (by assumption) | exact zu_o (by assumption) (zu_o (by assumption) (by assumption))) rfl ?_
    refine z_aload_n hX rfl (by first | rfl | exact va_rf_r _) dX2_with_8 ?_
    refine z_get hX (C := RX2) (T := TX2) (N := 7) (ci := 2) rfl in_X2 1 (by decide) q339 (Or.inl rfl) dX2_with_9 (by first | assumption | exact zu_s _ _ _ | exact zu_o (by assumption) (by assumption) | exact zu_o (by assumption) (zu_o (by assumption) (by assumption))) rfl ?_
    refine z_iload_n hX rfl dX2_with_12 ?_
    refine z_iconst hX dX2_with_13 ?_
    refine z_icmp_ne hX (by omega) (by omega) dX2_with_14 (tgt := 21) rfl (fun h_14 => ?_) (fun h_14 => ?_)
    · exact absurd rfl h_14
    · refine z_iload_n hX rfl dX2_with_17 ?_
      refine z_goto hX (tgt := 25) dX2_with_18 rfl ?_
      refine z_iload_n hX rfl dX2_with_25 ?_
      refine z_iconst hX dX2_with_26 ?_
      refine z_icmp_ne hX (by omega) (by omega) dX2_with_27 (tgt := 34) rfl (fun h_27 => ?_) (fun h_27 => ?_)
      · refine z_aload_n hX rfl (by first | rfl | exact va_rf_r _) dX2_with_34 ?_
        refine z_get hX (C := RX2) (T := TX2) (N := 7) (ci := 2) rfl in_X2 3 (by decide) q348 (Or.inl rfl) dX2_with_35 (by first | assumption | exact zu_s _ _ _ | exact zu_o (by assumption) (by assumption) | exact zu_o (by assumption) (zu_o (by assumption) (by assumption))) rfl ?_
        refine z_iload_n hX rfl dX2_with_38 ?_
        refine z_iconst hX dX2_with_39 ?_
        refine z_icmp_ne hX (by omega) (by omega) dX2_with_40 (tgt := 47) rfl (fun h_40 => ?_) (fun h_40 => ?_)
        · refine z_aload_n hX rfl (by first | rfl | exact va_rf_r _) dX2_with_47 ?_
          refine z_get hX (C := RX2) (T := TX2) (N := 7) (ci := 2) rfl in_X2 4 (by decide) q350 (Or.inl rfl) dX2_with_48 (by first | assumption | exact zu_s _ _ _ | exact zu_o (by assumption) (by assumption) | exact zu_o (by assumption) (zu_o (by assumption) (by assumption))) rfl ?_
          refine z_aload_n hX rfl (by first | rfl | exact va_rf_r _) dX2_with_51 ?_
          refine z_get hX (C := RX2) (T := TX2) (N := 7) (ci := 2) rfl in_X2 5 (by decide) q352 (Or.inl rfl) dX2_with_52 (by first | assumption | exact zu_s _ _ _ | exact zu_o (by assumption) (by assumption) | exact zu_o (by assumption) (zu_o (by assumption) (by assumption))) rfl ?_
          refine z_aload_n hX rfl (by first | rfl | exact va_rf_r _) dX2_with_55 ?_
          refine z_get hX (C := RX2) (T := TX2) (N := 7) (ci := 2) rfl in_X2 6 (by decide) q356 (Or.inl rfl) dX2_with_56 (by first | assumption | exact zu_s _ _ _ | exact zu_o (by assumption) (by assumption) | exact zu_o (by assumption) (zu_o (by assumption) (by assumption))) rfl ?_
          refine z_callv (z_runI hX (hI) (cwI 7 hX.ts (lw_meth q332) rfl rfl rfl (hX.t q72) (hX.t q330) (hX.t q331) rfl (by decide +kernel) (zroom (by decide) (by decide))) dX2_with_59 rfl rfl rfl (by first | exact Nat.le_of_ble_eq_true rfl | simp [va_rf_c, Value.category]) (zhf (by omega) (by omega))) (fun μ_59 h_59 => ?_)
          obtain rfl := h_59; rw [zu_zu]
          (try rw [← hQ])
          first | refine z_areturn hX (r := some _) rfl (by first | exact Or.inl ⟨_, rfl⟩ | exact Or.inr ⟨_, rfl⟩) dX2_with_62 (by omega) (by omega) ?_ | refine z_areturn hX (r := none) rfl (by first | exact Or.inl ⟨_, rfl⟩ | exact Or.inr ⟨_, rfl⟩) dX2_with_62 (by omega) (by omega) ?_ | refine z_areturn hX rfl (by first | exact Or.inl ⟨_, rfl⟩ | exact Or.inr ⟨_, rfl⟩) dX2_with_62 (by omega) (by omega) ?_
          exact ⟨q_0, f_0, rfl, rfl⟩
        · exact absurd h_40 (by decide)
      · exact absurd h_27 (by decide)
  · rw [e2 (by decide), e4 (by decide), es] at hI
    refine z_dup hX (by first | rfl | exact va_rf_c _) dX2_with_3 ?_
    refine z_aload_n hX rfl (by first | rfl | exact va_rf_r _) dX2_with_4 ?_
    refine z_get hX (C := RX2) (T := TX2) (N := 7) (ci := 2) rfl in_X2 0 (by decide) q334 (Or.inl rfl) dX2_with_5 (by first | assumption | exact zu_s _ _ _ | exact zu_o (by assumption) (by assumption) | exact zu_o (by assumption) (zu_o (by assumption) (by assumption))) rfl ?_
    refine z_aload_n hX rfl (by first | rfl | exact va_rf_r _) dX2_with_8 ?_
    refine z_get hX (C := RX2) (T := TX2) (N := 7) (ci := 2) rfl in_X2 1 (by decide) q339 (Or.inl rfl) dX2_with_9 (by first | assumption | exact zu_s _ _ _ | exact zu_o (by assumption) (by assumption) | exact zu_o (by assumption) (zu_o (by assumption) (by assumption))) rfl ?_
    refine z_iload_n hX rfl dX2_with_12 ?_
    refine z_iconst hX dX2_with_13 ?_
    refine z_icmp_ne hX (by omega) (by omega) dX2_with_14 (tgt := 21) rfl (fun h_14 => ?_) (fun h_14 => ?_)
    · refine z_aload_n hX rfl (by first | rfl | exact va_rf_r _) dX2_with_21 ?_
      refine z_get hX (C := RX2) (T := TX2) (N := 7) (ci := 2) rfl in_X2 2 (by decide) q345 (Or.inl rfl) dX2_with_22 (by first | assumption | exact zu_s _ _ _ | exact zu_o (by assumption) (by assumption) | exact zu_o (by assumption) (zu_o (by assumption) (by assumption))) rfl ?_
      refine z_iload_n hX rfl dX2_with_25 ?_
      refine z_iconst hX dX2_with_26 ?_
      refine z_icmp_ne hX (by omega) (by omega) dX2_with_27 (tgt := 34) rfl (fun h_27 => ?_) (fun h_27 => ?_)
      · exact absurd rfl h_27
      · refine z_iload_n hX rfl dX2_with_30 ?_
        refine z_goto hX (tgt := 38) dX2_with_31 rfl ?_
        refine z_iload_n hX rfl dX2_with_38 ?_
        refine z_iconst hX dX2_with_39 ?_
        refine z_icmp_ne hX (by omega) (by omega) dX2_with_40 (tgt := 47) rfl (fun h_40 => ?_) (fun h_40 => ?_)
        · refine z_aload_n hX rfl (by first | rfl | exact va_rf_r _) dX2_with_47 ?_
          refine z_get hX (C := RX2) (T := TX2) (N := 7) (ci := 2) rfl in_X2 4 (by decide) q350 (Or.inl rfl) dX2_with_48 (by first | assumption | exact zu_s _ _ _ | exact zu_o (by assumption) (by assumption) | exact zu_o (by assumption) (zu_o (by assumption) (by assumption))) rfl ?_
          refine z_aload_n hX rfl (by first | rfl | exact va_rf_r _) dX2_with_51 ?_
          refine z_get hX (C := RX2) (T := TX2) (N := 7) (ci := 2) rfl in_X2 5 (by decide) q352 (Or.inl rfl) dX2_with_52 (by first | assumption | exact zu_s _ _ _ | exact zu_o (by assumption) (by assumption) | exact zu_o (by assumption) (zu_o (by assumption) (by assumption))) rfl ?_
          refine z_aload_n hX rfl (by first | rfl | exact va_rf_r _) dX2_with_55 ?_
          refine z_get hX (C := RX2) (T := TX2) (N := 7) (ci := 2) rfl in_X2 6 (by decide) q356 (Or.inl rfl) dX2_with_56 (by first | assumption | exact zu_s _ _ _ | exact zu_o (by assumption) (by assumption) | exact zu_o (by assumption) (zu_o (by assumption) (by assumption))) rfl ?_
          refine z_callv (z_runI hX (hI) (cwI 7 hX.ts (lw_meth q332) rfl rfl rfl (hX.t q72) (hX.t q330) (hX.t q331) rfl (by decide +kernel) (zroom (by decide) (by decide))) dX2_with_59 rfl rfl rfl (by first | exact Nat.le_of_ble_eq_true rfl | simp [va_rf_c, Value.category]) (zhf (by omega) (by omega))) (fun μ_59 h_59 => ?_)
          obtain rfl := h_59; rw [zu_zu]
          (try rw [← hQ])
          first | refine z_areturn hX (r := some _) rfl (by first | exact Or.inl ⟨_, rfl⟩ | exact Or.inr ⟨_, rfl⟩) dX2_with_62 (by omega) (by omega) ?_ | refine z_areturn hX (r := none) rfl (by first | exact Or.inl ⟨_, rfl⟩ | exact Or.inr ⟨_, rfl⟩) dX2_with_62 (by omega) (by omega) ?_ | refine z_areturn hX rfl (by first | exact Or.inl ⟨_, rfl⟩ | exact Or.inr ⟨_, rfl⟩) dX2_with_62 (by omega) (by omega) ?_
          exact ⟨q_0, f_0, rfl, rfl⟩
        · exact absurd h_40 (by decide)
    · exact absurd h_14 (by decide)
  · rw [e2 (by decide), e3 (by decide), es] at hI
    refine z_dup hX (by first | rfl | exact va_rf_c _) dX2_with_3 ?_
    refine z_aload_n hX rfl (by first | rfl | exact va_rf_r _) dX2_with_4 ?_
    refine z_get hX (C := RX2) (T := TX2) (N := 7) (ci := 2) rfl in_X2 0 (by decide) q334 (Or.inl rfl) dX2_with_5 (by first | assumption | exact zu_s _ _ _ | exact zu_o (by assumption) (by assumption) | exact zu_o (by assumption) (zu_o (by assumption) (by assumption))) rfl ?_
    refine z_aload_n hX rfl (by first | rfl | exact va_rf_r _) dX2_with_8 ?_
    refine z_get hX (C := RX2) (T := TX2) (N := 7) (ci := 2) rfl in_X2 1 (by decide) q339 (Or.inl rfl) dX2_with_9 (by first | assumption | exact zu_s _ _ _ | exact zu_o (by assumption) (by assumption) | exact zu_o (by assumption) (zu_o (by assumption) (by assumption))) rfl ?_
    refine z_iload_n hX rfl dX2_with_12 ?_
    refine z_iconst hX dX2_with_13 ?_
    refine z_icmp_ne hX (by omega) (by omega) dX2_with_14 (tgt := 21) rfl (fun h_14 => ?_) (fun h_14 => ?_)
    · refine z_aload_n hX rfl (by first | rfl | exact va_rf_r _) dX2_with_21 ?_
      refine z_get hX (C := RX2) (T := TX2) (N := 7) (ci := 2) rfl in_X2 2 (by decide) q345 (Or.inl rfl) dX2_with_22 (by first | assumption | exact zu_s _ _ _ | exact zu_o (by assumption) (by assumption) | exact zu_o (by assumption) (zu_o (by assumption) (by assumption))) rfl ?_
      refine z_iload_n hX rfl dX2_with_25 ?_
      refine z_iconst hX dX2_with_26 ?_
      refine z_icmp_ne hX (by omega) (by omega) dX2_with_27 (tgt := 34) rfl (fun h_27 => ?_) (fun h_27 => ?_)
      · refine z_aload_n hX rfl (by first | rfl | exact va_rf_r _) dX2_with_34 ?_
        refine z_get hX (C := RX2) (T := TX2) (N := 7) (ci := 2) rfl in_X2 3 (by decide) q348 (Or.inl rfl) dX2_with_35 (by first | assumption | exact zu_s _ _ _ | exact zu_o (by assumption) (by assumption) | exact zu_o (by assumption) (zu_o (by assumption) (by assumption))) rfl ?_
        refine z_iload_n hX rfl dX2_with_38 ?_
        refine z_iconst hX dX2_with_39 ?_
        refine z_icmp_ne hX (by omega) (by omega) dX2_with_40 (tgt := 47) rfl (fun h_40 => ?_) (fun h_40 => ?_)
        · exact absurd rfl h_40
        · refine z_iload_n hX rfl dX2_with_43 ?_
          refine z_goto hX (tgt := 51) dX2_with_44 rfl ?_
          refine z_aload_n hX rfl (by first | rfl | exact va_rf_r _) dX2_with_51 ?_
          refine z_get hX (C := RX2) (T := TX2) (N := 7) (ci := 2) rfl in_X2 5 (by decide) q352 (Or.inl rfl) dX2_with_52 (by first | assumption | exact zu_s _ _ _ | exact zu_o (by assumption) (by assumption) | exact zu_o (by assumption) (zu_o (by assumption) (by assumption))) rfl ?_
          refine z_aload_n hX rfl (by first | rfl | exact va_rf_r _) dX2_with_55 ?_
          refine z_get hX (C := RX2) (T := TX2) (N := 7) (ci := 2) rfl in_X2 6 (by decide) q356 (Or.inl rfl) dX2_with_56 (by first | assumption | exact zu_s _ _ _ | exact zu_o (by assumption) (by assumption) | exact zu_o (by assumption) (zu_o (by assumption) (by assumption))) rfl ?_
          refine z_callv (z_runI hX (hI) (cwI 7 hX.ts (lw_meth q332) rfl rfl rfl (hX.t q72) (hX.t q330) (hX.t q331) rfl (by decide +kernel) (zroom (by decide) (by decide))) dX2_with_59 rfl rfl rfl (by first | exact Nat.le_of_ble_eq_true rfl | simp [va_rf_c, Value.category]) (zhf (by omega) (by omega))) (fun μ_59 h_59 => ?_)
          obtain rfl := h_59; rw [zu_zu]
          (try rw [← hQ])
          first | refine z_areturn hX (r := some _) rfl (by first | exact Or.inl ⟨_, rfl⟩ | exact Or.inr ⟨_, rfl⟩) dX2_with_62 (by omega) (by omega) ?_ | refine z_areturn hX (r := none) rfl (by first | exact Or.inl ⟨_, rfl⟩ | exact Or.inr ⟨_, rfl⟩) dX2_with_62 (by omega) (by omega) ?_ | refine z_areturn hX rfl (by first | exact Or.inl ⟨_, rfl⟩ | exact Or.inr ⟨_, rfl⟩) dX2_with_62 (by omega) (by omega) ?_
          exact ⟨q_0, f_0, rfl, rfl⟩
      · exact absurd h_27 (by decide)
    · exact absurd h_14 (by decide)
theorem x_edAt (l : Launch) (E : zE) {μ : zM} {a : Nat} {g : Int → Int} (ha : μ a = some (zed g)) {n d : Int} : Met l yX2_at (ws_ yX2_at cX2_at 3 (some (.object "RatioGraph$Edge"))) (zR 2 1 7) (va_Pc [.ref a, .int (zI n), .int (zI d)] (zPre E μ)) (zQq E (fun r μ' => ∃ b, μ b = none ∧ zu μ b (zed (zf (zf g 5 n) 6 d)) = μ' ∧ some b = r)) 1 7 (zA E) := by
  refine zmet (cc := cX2_at) [_, _, _] (by decide) (Nat.le_of_ble_eq_true rfl) rfl rfl ?_
  intro X hl hX hinit; subst hl
  have hX : zOK X _ cX2_at RX2 (some (.object "RatioGraph$Edge")) 3 := hX
  generalize hQ : MQ _ _ _ _ _ _ _ = Q
  refine z_new hX (C := RX2) (T := TX2) (N := 7) (ci := 2) rfl in_X2 tyX2 tyX2_ok q443 q326 q72 dX2_at_0 (fs := [.int (zI 0), .int (zI 0), .int (zI 0), .int (zI 0), .int (zI 0), .int (zI 0), .int (zI 0)]) (by decide) (by omega) (by omega) (fun q_0 f_0 => ?_)
  have hne := zne ha f_0
  have hI := x_edI (zXl X) E (zu_s μ q_0 (zed (fun _ => 0))) (g := zf (zf g 5 n) 6 d)
  rw [show zf (zf g 5 n) 6 d 0 = g 0 from rfl, show zf (zf g 5 n) 6 d 1 = g 1 from rfl, show zf (zf g 5 n) 6 d 2 = g 2 from rfl, show zf (zf g 5 n) 6 d 3 = g 3 from rfl, show zf (zf g 5 n) 6 d 4 = g 4 from rfl, show zf (zf g 5 n) 6 d 5 = n from rfl, show zf (zf g 5 n) 6 d 6 = d from rfl] at hI
  refine z_dup hX (by first | rfl | exact va_rf_c _) dX2_at_3 ?_
  refine z_aload_n hX rfl (by first | rfl | exact va_rf_r _) dX2_at_4 ?_
  refine z_get hX (C := RX2) (T := TX2) (N := 7) (ci := 2) rfl in_X2 0 (by decide) q334 (Or.inl rfl) dX2_at_5 (by first | assumption | exact zu_s _ _ _ | exact zu_o (by assumption) (by assumption) | exact zu_o (by assumption) (zu_o (by assumption) (by assumption))) rfl ?_
  refine z_aload_n hX rfl (by first | rfl | exact va_rf_r _) dX2_at_8 ?_
  refine z_get hX (C := RX2) (T := TX2) (N := 7) (ci := 2) rfl in_X2 1 (by decide) q339 (Or.inl rfl) dX2_at_9 (by first | assumption | exact zu_s _ _ _ | exact zu_o (by assumption) (by assumption) | exact zu_o (by assumption) (zu_o (by assumption) (by assumption))) rfl ?_
  refine z_aload_n hX rfl (by first | rfl | exact va_rf_r _) dX2_at_12 ?_
  refine z_get hX (C := RX2) (T := TX2) (N := 7) (ci := 2) rfl in_X2 2 (by decide) q345 (Or.inl rfl) dX2_at_13 (by first | assumption | exact zu_s _ _ _ | exact zu_o (by assumption) (by assumption) | exact zu_o (by assumption) (zu_o (by assumption) (by assumption))) rfl ?_
  refine z_aload_n hX rfl (by first | rfl | exact va_rf_r _) dX2_at_16 ?_
  refine z_get hX (C := RX2) (T := TX2) (N := 7) (ci := 2) rfl in_X2 3 (by decide) q348 (Or.inl rfl) dX2_at_17 (by first | assumption | exact zu_s _ _ _ | exact zu_o (by assumption) (by assumption) | exact zu_o (by assumption) (zu_o (by assumption) (by assumption))) rfl ?_
  refine z_aload_n hX rfl (by first | rfl | exact va_rf_r _) dX2_at_20 ?_
  refine z_get hX (C := RX2) (T := TX2) (N := 7) (ci := 2) rfl in_X2 4 (by decide) q350 (Or.inl rfl) dX2_at_21 (by first | assumption | exact zu_s _ _ _ | exact zu_o (by assumption) (by assumption) | exact zu_o (by assumption) (zu_o (by assumption) (by assumption))) rfl ?_
  refine z_iload_n hX rfl dX2_at_24 ?_
  refine z_iload_n hX rfl dX2_at_25 ?_
  refine z_callv (z_runI hX (hI) (cwI 7 hX.ts (lw_meth q332) rfl rfl rfl (hX.t q72) (hX.t q330) (hX.t q331) rfl (by decide +kernel) (zroom (by decide) (by decide))) dX2_at_26 rfl rfl rfl (by first | exact Nat.le_of_ble_eq_true rfl | simp [va_rf_c, Value.category]) (zhf (by omega) (by omega))) (fun μ_26 h_26 => ?_)
  obtain rfl := h_26; rw [zu_zu]
  (try rw [← hQ])
  first | refine z_areturn hX (r := some _) rfl (by first | exact Or.inl ⟨_, rfl⟩ | exact Or.inr ⟨_, rfl⟩) dX2_at_29 (by omega) (by omega) ?_ | refine z_areturn hX (r := none) rfl (by first | exact Or.inl ⟨_, rfl⟩ | exact Or.inr ⟨_, rfl⟩) dX2_at_29 (by omega) (by omega) ?_ | refine z_areturn hX rfl (by first | exact Or.inl ⟨_, rfl⟩ | exact Or.inr ⟨_, rfl⟩) dX2_at_29 (by omega) (by omega) ?_
  exact ⟨q_0, f_0, rfl, rfl⟩
theorem x_edI5 (l : Launch) (E : zE) {μ : zM} {a : Nat} {g0 : Int → Int} (ha : μ a = some (zed g0)) {g : Int → Int} (h5 : g 5 = 1) (h6 : g 6 = 1) : Met l yX2_init (ws_ yX2_init cX2_init 6 none) (zR 2 0 0) (va_Pc [.ref a, .int (zI (g 0)), .int (zI (g 1)), .int (zI (g 2)), .int (zI (g 3)), .int (zI (g 4))] (zPre E μ)) (zQv E (fun μ' => zu μ a (zed g) = μ')) 0 0 (zA E) := by
  have hI := x_edI l E ha (g := g)
  rw [h5, h6] at hI
  refine zmet (cc := cX2_init) [_, _, _, _, _, _] (by decide) (Nat.le_of_ble_eq_true rfl) rfl rfl ?_
  intro X hl hX hinit; subst hl
  have hX : zOK X _ cX2_init RX2 none 6 := hX
  refine z_aload_n hX rfl (by first | rfl | exact va_rf_r _) dX2_init_0 ?_
  refine z_iload_n hX rfl dX2_init_1 ?_
  refine z_iload_n hX rfl dX2_init_2 ?_
  refine z_iload_n hX rfl dX2_init_3 ?_
  refine z_iload hX rfl dX2_init_4 ?_
  refine z_iload hX rfl dX2_init_6 ?_
  refine z_iconst hX dX2_init_8 ?_
  refine z_iconst hX dX2_init_9 ?_
  refine z_callv (z_runI hX (hI) (cwI 7 hX.ts (lw_meth q332) rfl rfl rfl (hX.t q72) (hX.t q330) (hX.t q331) rfl (by decide +kernel) (zroom (by decide) (by decide))) dX2_init_10 rfl rfl rfl (by first | exact Nat.le_of_ble_eq_true rfl | simp [va_rf_c, Value.category]) (zhf (by omega) (by omega))) (fun μ_10 h_10 => ?_)
  obtain rfl := h_10
  (try rw [← hQ])
  refine z_return hX dX2_init_13 (by omega) (by omega) ?_
  rfl
