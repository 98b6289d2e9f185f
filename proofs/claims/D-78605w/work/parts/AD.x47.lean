/-! X SIDE 47: fault -/
set_option maxRecDepth 100000
theorem pBl0 (L : Int) (Y F : Int → Int) : ldR L Y F = rdL L Y 17 0 (blk L Y 0, -1000001) F := rfl
theorem x_fault (l : Launch) (E : zE) {μ : zM} {x Lp h mk tx : Nat} {L : Int} {fo pc : Option Nat} {hs : Int} {Y : Int → Int} (hx : μ x = some (zx0 Lp h mk tx L fo pc hs)) (htx : μ tx = some (zab E 150 Y)) (hY : tV L Y) (F : Int → Int) : Met l yX0_fault (Cond.codeWith yX0_fault cX0_fault 2 (some .int) [(0, 14, 15, 140)] :: lw_all) (zR 10 430 2900) (va_Pc [.ref x] (zPre E μ)) (zQi E (fun r μ' => (ldR L Y F).2.1.2 = r ∧ zKp μ μ')) 430 2900 (zA E) := by
  have hL := hY.1
  rw [pBl0]
  refine zmetH (cc := cX0_fault) [_, _] (by decide) (Nat.le_of_ble_eq_true rfl) rfl rfl ?_
  intro X hl hX htab; subst hl
  have hX : zOK X _ cX0_fault RX0 (some .int) 2 := hX
  generalize hQ : MQ _ _ _ _ _ _ _ = Q
  refine z_new hX (C := RX3) (T := TX3) (N := 3) (ci := 3) rfl in_X3 tyX3 tyX3_ok q512 q513 q80 dX0_fault_0 (fs := [.int (zI 0), .null, .null]) (by decide) (by omega) (by omega) (fun q_0 f_0 => ?_)
  have kn := zKp.new f_0 (zob 3 [.int (zI 0), .null, .null])
  refine z_dup hX (by first | rfl | exact va_rf_c _) dX0_fault_3 ?_
  refine z_aload_n hX rfl (by first | rfl | exact va_rf_r _) dX0_fault_4 ?_
  refine z_callv (z_runIN hX (x_rdI _ _ (zu_s _ _ _) (kn _ _ hx) (kn _ _ htx) hY) ⟨va_cnB 1 hX.ts (lw_meth q516) rfl rfl rfl (hX.nw q514 rfl) (hX.t q80) (by decide +kernel) (zroom (by first | decide | omega) (by decide)), rfl, hX.t q515⟩ dX0_fault_5 rfl rfl rfl (by first | exact Nat.le_of_ble_eq_true rfl | simp [va_rf_c, Value.category]) (zhf (by omega) (by omega))) (fun μ_5 h_5 => ?_)
  obtain ⟨rl, arr, hrl, harr, hRD, hA, hk⟩ := h_5
  have k0 := hk.kp1 f_0
  have hg := hRD.1
  have hbr := blk_rr (Y := Y) hL.1 (p := 0) (by omega) hL.1
  have kx : ∀ (q : Nat) (μ' : zM), (∃ w, (0 ≤ w ∧ w ≤ L) ∧ (rdL L Y 17 0 (blk L Y 0, -1000001) F).2.1.2 = w ∧ μ' q = some (zTF w) ∧ zKp μ μ') → zyW X (zR 10 430 2900) E μ' 423 2822 Q 8 [some (.ref x), none] q := fun q μ' hx => by
    obtain ⟨w, w1, w2, w3, w4⟩ := hx
    refine zycatch hX ⟨0, 14, 15, 140⟩ htab (by decide) (by decide) q511 (hX.nw q553 rfl) w3 ?_
    show zW X (zR 10 430 2900) E μ' 423 2822 Q 15 [some (.ref x), none] [.ref q]
    refine z_astore_n hX (lv' := [_, _]) (by first | rfl | exact va_rf_r _) (Nat.le_of_ble_eq_true rfl) (by first | exact zpre_0 | exact zpre_n rfl | exact zpre_1 rfl rfl | exact zpre_1 rfl (va_rf_c _)) rfl dX0_fault_15 ?_
    refine z_aload_n hX rfl (by first | rfl | exact va_rf_r _) dX0_fault_16 ?_
    refine z_getN hX (C := RX4) (T := TX4) (N := 7) (ci := 4) rfl in_X4 6 (by decide) q598 (Or.inl rfl) dX0_fault_17 (by first | assumption | exact zu_s _ _ _ | exact zu_o (by assumption) (by assumption) | exact zu_o (by assumption) (zu_o (by assumption) (by assumption)) | exact (zu_o (by first | assumption | exact Ne.symm (by assumption)) (zu_s _ _ _)) | exact (zu_o (by first | assumption | exact Ne.symm (by assumption)) (by assumption)) | exact (zu_o (by first | assumption | exact Ne.symm (by assumption)) (zu_o (by first | assumption | exact Ne.symm (by assumption)) (zu_s _ _ _))) | exact (zu_o (by first | assumption | exact Ne.symm (by assumption)) (zu_o (by first | assumption | exact Ne.symm (by assumption)) (by assumption))) | exact (zu_o (by first | assumption | exact Ne.symm (by assumption)) (zu_o (by first | assumption | exact Ne.symm (by assumption)) (zu_o (by first | assumption | exact Ne.symm (by assumption)) (zu_s _ _ _)))) | exact (zu_o (by first | assumption | exact Ne.symm (by assumption)) (zu_o (by first | assumption | exact Ne.symm (by assumption)) (zu_o (by first | assumption | exact Ne.symm (by assumption)) (by assumption)))) | exact (zu_o (by first | assumption | exact Ne.symm (by assumption)) (zu_o (by first | assumption | exact Ne.symm (by assumption)) (zu_o (by first | assumption | exact Ne.symm (by assumption)) (zu_o (by first | assumption | exact Ne.symm (by assumption)) (zu_s _ _ _))))) | exact (zu_o (by first | assumption | exact Ne.symm (by assumption)) (zu_o (by first | assumption | exact Ne.symm (by assumption)) (zu_o (by first | assumption | exact Ne.symm (by assumption)) (zu_o (by first | assumption | exact Ne.symm (by assumption)) (by assumption))))) | exact AL.at (by assumption) | exact EL.at (by assumption) | exact LL.at (by assumption)) rfl ?_
    (try rw [← hQ])
    (try refine zyret ?_)
    refine z_ireturn hX dX0_fault_20 (by omega) (by omega) ?_
    exact ⟨w2, w4⟩
  refine zy_cq (zy_rV hX (x_read (μ0 := μ) _ _ k0 f_0 (kn.no hrl) (kn.no harr) hRD (by rw [hx]; simp) (by rw [htx]; simp) hbr hA F) (cwV 0 hX.ts (lw_V q538 q539 q540 q80 q541) rfl rfl rfl (by decide +kernel) (zroom (by first | decide | omega) (by decide))) dX0_fault_8 (by first | assumption | exact zu_s _ _ _ | exact zu_o (by assumption) (by assumption) | exact zu_o (by assumption) (zu_o (by assumption) (by assumption)) | exact (zu_o (by first | assumption | exact Ne.symm (by assumption)) (zu_s _ _ _)) | exact (zu_o (by first | assumption | exact Ne.symm (by assumption)) (by assumption)) | exact (zu_o (by first | assumption | exact Ne.symm (by assumption)) (zu_o (by first | assumption | exact Ne.symm (by assumption)) (zu_s _ _ _))) | exact (zu_o (by first | assumption | exact Ne.symm (by assumption)) (zu_o (by first | assumption | exact Ne.symm (by assumption)) (by assumption))) | exact (zu_o (by first | assumption | exact Ne.symm (by assumption)) (zu_o (by first | assumption | exact Ne.symm (by assumption)) (zu_o (by first | assumption | exact Ne.symm (by assumption)) (zu_s _ _ _)))) | exact (zu_o (by first | assumption | exact Ne.symm (by assumption)) (zu_o (by first | assumption | exact Ne.symm (by assumption)) (zu_o (by first | assumption | exact Ne.symm (by assumption)) (by assumption)))) | exact (zu_o (by first | assumption | exact Ne.symm (by assumption)) (zu_o (by first | assumption | exact Ne.symm (by assumption)) (zu_o (by first | assumption | exact Ne.symm (by assumption)) (zu_o (by first | assumption | exact Ne.symm (by assumption)) (zu_s _ _ _))))) | exact (zu_o (by first | assumption | exact Ne.symm (by assumption)) (zu_o (by first | assumption | exact Ne.symm (by assumption)) (zu_o (by first | assumption | exact Ne.symm (by assumption)) (zu_o (by first | assumption | exact Ne.symm (by assumption)) (by assumption))))) | exact AL.at (by assumption) | exact EL.at (by assumption) | exact LL.at (by assumption)) (ci := 3) rfl rfl rfl rfl (by first | exact Nat.le_of_ble_eq_true rfl | simp [va_rf_c, Value.category]) (zhf (by omega) (by omega))) kx (fun r_8 μ_8 h_8 => ?_)
  obtain ⟨hr, -, -, hk2⟩ := h_8
  refine z_pop hX (by first | rfl | exact va_rf_c _) dX0_fault_11 ?_
  refine z_ldc hX (z := -1000001) q647 (by decide) dX0_fault_12 ?_
  (try rw [← hQ])
  (try refine zyret ?_)
  refine z_ireturn hX dX0_fault_14 (by omega) (by omega) ?_
  exact ⟨hr, hk2⟩
