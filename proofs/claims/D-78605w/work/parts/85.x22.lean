/-! X SIDE 22: feasible, convert -/
set_option maxRecDepth 100000
theorem irem2 {k : Int} (h : 0 ≤ k ∧ k ≤ 3) : zI k - zI k / zI 2 * zI 2 = zI (k % 2) := by
  have : k = 0 ∨ k = 1 ∨ k = 2 ∨ k = 3 := by omega
  rcases this with rfl | rfl | rfl | rfl <;> decide
theorem x_feasible (l : Launch) (E : zE) {μ : zM} {x : Nat} {a : Int → Int} (hG : xG E μ x a) (hg : gV a) {k : Int} (hk : iR k) : Met l yX0_feasible (ws_ yX0_feasible cX0_feasible 4 (some .long)) (zR 27 720 1455) (va_Pc [.ref x, .int (zI k)] (zPre E μ)) (zQl E (fun r μ' => (if 0 ≤ k ∧ k ≤ 3 then feasR k (nAll a) else gBAD) = r ∧ zKp μ μ')) 720 1455 (zA E) := by
  have hG0 := hG
  obtain ⟨L, arr, c, rs, h', mk, tx, tl, fo, pc, hs, hx, hE⟩ := hG0
  have h16 := hg.1
  refine zmet (cc := cX0_feasible) [_, _, _, _] (by decide) (Nat.le_of_ble_eq_true rfl) rfl rfl ?_
  intro X hl hX hinit; subst hl
  have hX : zOK X _ cX0_feasible RX0 (some .long) 4 := hX
  generalize hQ : MQ _ _ _ _ _ _ _ = Q
  refine z_iload_n hX rfl dX0_feasible_0 ?_
  refine z_i2l hX (by omega) dX0_feasible_1 ?_
  refine z_lconst hX (z := 0) (by decide) dX0_feasible_2 ?_
  refine z_ldc2_w hX (z := 3) q1247 (by decide) dX0_feasible_3 ?_
  refine z_callb (z_runS hX (x_isIn _ _ _ (by unfold lR; omega) (by unfold lR; omega) (by unfold lR; omega)) (va_cwS 3 hX.ts (lw_S q197 q198 q65 q199) rfl rfl rfl (by decide +kernel) (zroom (by decide) (by decide))) dX0_feasible_6 rfl rfl rfl (by first | exact Nat.le_of_ble_eq_true rfl | simp [va_rf_c, Value.category]) (zhf (by omega) (by omega))) (fun r_6 μ_6 h_6 => ?_)
  obtain ⟨rfl, rfl⟩ := h_6
  refine z_if_ne_b hX dX0_feasible_9 (tgt := 16) rfl (fun h_9 => ?_) (fun h_9 => ?_)
  · have hn : 0 ≤ k ∧ k ≤ 3 := of_decide_eq_true h_9
    refine z_new hX (C := RX17) (T := TX17) (N := 11) (ci := 15) rfl in_X17 tyX17 tyX17_ok q1256 q1257 q96 dX0_feasible_16 (fs := [.int (zI 0), .null, .int (zI 0), .null, .int (zI 0), .int (zI 0), .null, .null, .null, .int (zI 0), .null]) (by decide) (by omega) (by omega) (fun q_16 f_16 => ?_)
    have hk0 := zKp.new f_16 (zob 15 [.int (zI 0), .null, .int (zI 0), .null, .int (zI 0), .int (zI 0), .null, .null, .null, .int (zI 0), .null])
    refine z_dup hX (by first | rfl | exact va_rf_c _) dX0_feasible_19 ?_
    refine z_aload_n hX rfl (by first | rfl | exact va_rf_r _) dX0_feasible_20 ?_
    refine z_callv (z_runI hX (x_bo_init _ _ (zu_s _ _ _) (hG.kp hk0)) (cwI 1 hX.ts (lw_meth q1260) rfl rfl rfl (hX.t q96) (hX.t q1258) (hX.t q1259) rfl (by decide +kernel) (zroom (by decide) (by decide))) dX0_feasible_21 rfl rfl rfl (by first | exact Nat.le_of_ble_eq_true rfl | simp [va_rf_c, Value.category]) (zhf (by omega) (by omega))) (fun μ_21 h_21 => ?_)
    obtain ⟨sq, hsq, hW⟩ := h_21; have hW0 := hW; obtain ⟨ac, sn, f, hw, -⟩ := hW0
    refine z_astore_n hX (lv' := [_, _, _, _]) (by first | rfl | exact va_rf_r _) (Nat.le_of_ble_eq_true rfl) (by first | exact zpre_0 | exact zpre_n rfl | exact zpre_1 rfl rfl | exact zpre_1 rfl (va_rf_c _)) rfl dX0_feasible_24 ?_
    refine z_aload_n hX rfl (by first | rfl | exact va_rf_r _) dX0_feasible_25 ?_
    refine z_callb (z_runV hX (x_bo_empty _ _ hg (by have : (2:Nat) ^ (a 112).toNat ≤ 2 ^ 16 := Nat.pow_le_pow_right (by omega) (by omega); omega) hW) (cwV 0 hX.ts (lw_V q1285 q1286 q1287 q96 q1288) rfl rfl rfl (by decide +kernel) (zroom (by decide) (by decide))) dX0_feasible_26 (by first | assumption | exact zu_s _ _ _ | exact zu_o (by assumption) (by assumption) | exact zu_o (by assumption) (zu_o (by assumption) (by assumption)) | exact (zu_o (by first | assumption | exact Ne.symm (by assumption)) (zu_s _ _ _)) | exact (zu_o (by first | assumption | exact Ne.symm (by assumption)) (by assumption)) | exact (zu_o (by first | assumption | exact Ne.symm (by assumption)) (zu_o (by first | assumption | exact Ne.symm (by assumption)) (zu_s _ _ _))) | exact (zu_o (by first | assumption | exact Ne.symm (by assumption)) (zu_o (by first | assumption | exact Ne.symm (by assumption)) (by assumption))) | exact (zu_o (by first | assumption | exact Ne.symm (by assumption)) (zu_o (by first | assumption | exact Ne.symm (by assumption)) (zu_o (by first | assumption | exact Ne.symm (by assumption)) (zu_s _ _ _)))) | exact (zu_o (by first | assumption | exact Ne.symm (by assumption)) (zu_o (by first | assumption | exact Ne.symm (by assumption)) (zu_o (by first | assumption | exact Ne.symm (by assumption)) (by assumption)))) | exact (zu_o (by first | assumption | exact Ne.symm (by assumption)) (zu_o (by first | assumption | exact Ne.symm (by assumption)) (zu_o (by first | assumption | exact Ne.symm (by assumption)) (zu_o (by first | assumption | exact Ne.symm (by assumption)) (zu_s _ _ _))))) | exact (zu_o (by first | assumption | exact Ne.symm (by assumption)) (zu_o (by first | assumption | exact Ne.symm (by assumption)) (zu_o (by first | assumption | exact Ne.symm (by assumption)) (zu_o (by first | assumption | exact Ne.symm (by assumption)) (by assumption))))) | exact AL.at (by assumption) | exact EL.at (by assumption) | exact LL.at (by assumption)) (ci := 15) rfl rfl rfl rfl (by first | exact Nat.le_of_ble_eq_true rfl | simp [va_rf_c, Value.category]) (zhf (by omega) (by omega))) (fun r_26 μ_26 h_26 => ?_)
    obtain ⟨hr, hW2⟩ := h_26; rw [all_edges h16.1, gCs_all] at hr hW2
    refine z_if_eq_b hX dX0_feasible_29 (tgt := 36) rfl (fun h_29 => ?_) (fun h_29 => ?_)
    · obtain ⟨⟨lo, hi, nv⟩, sn2, f2, hw2, hT2, hsq2, hr2, hpb2, ⟨hA1, hA2, hA3⟩, hG2, hk2⟩ := hW2
      have hk3 := hk2.kp2 f_16 hsq
      dsimp only at hw2 hA1 hA2 hA3
      have hfe : feasR k (nAll a) = if k < 2 then oR (decide (k = 0)) (nAll a).1 else oR (decide (k = 2)) (nAll a).2.1 := by
        unfold feasR
        rw [if_neg]
        intro q
        have h1 : (r_26 : Bool) = true := by rw [← hr]; exact q
        rw [h_29] at h1
        cases h1
      have fin : ∀ (r : Option Nat) (β : Option (Int × Int)), FO μ_26 r β → oR (decide (k % 2 = 0)) β = feasR k (nAll a) → zW X (zR 27 720 1455) E μ_26 (0 + 1 + 1 + 718) (0 + 11 + 8 + 1436) Q 52 [some (.ref x), some (.int (zI k)), some (.ref q_16), none] [va_rf r] := by
        intro r β hF hb
        cases β with
        | none =>
          obtain rfl : r = none := hF
          refine z_astore_n hX (lv' := [_, _, _, _]) (by first | rfl | exact va_rf_r _) (Nat.le_of_ble_eq_true rfl) (by first | exact zpre_0 | exact zpre_n rfl | exact zpre_1 rfl rfl | exact zpre_1 rfl (va_rf_c _)) rfl dX0_feasible_52 ?_
          refine z_aload_n hX rfl (by first | rfl | exact va_rf_r _) dX0_feasible_53 ?_
          refine z_ifnonnull_0 hX dX0_feasible_54 ?_
          refine z_ldc2_w hX (z := -1000001) q1105 (by decide) dX0_feasible_57 ?_
          (try rw [← hQ])
          refine z_lreturn hX dX0_feasible_60 (by omega) (by omega) ?_
          refine ⟨?_, hk3⟩
          rw [if_pos hn, ← hb]
          rfl
        | some u =>
          obtain ⟨fr, rfl, hfr, u1, u2⟩ := hF
          have hg1 := (frG_pos (n := u.1) (d := u.2) (by omega)).1
          have hm := irem2 hn
          refine z_astore_n hX (lv' := [_, _, _, _]) (by first | rfl | exact va_rf_r _) (Nat.le_of_ble_eq_true rfl) (by first | exact zpre_0 | exact zpre_n rfl | exact zpre_1 rfl rfl | exact zpre_1 rfl (va_rf_c _)) rfl dX0_feasible_52 ?_
          refine z_aload_n hX rfl (by first | rfl | exact va_rf_r _) dX0_feasible_53 ?_
          refine z_ifnonnull_r hX dX0_feasible_54 (tgt := 61) rfl ?_
          refine z_iload_n hX rfl dX0_feasible_61 ?_
          refine z_iconst hX dX0_feasible_62 ?_
          refine z_irem hX (z := (k%2)) (by decide) hm dX0_feasible_63 ?_
          refine z_if_ne hX (by omega) dX0_feasible_64 (tgt := 74) rfl (fun h_64 => ?_) (fun h_64 => ?_)
          · refine z_aload_n hX rfl (by first | rfl | exact va_rf_r _) dX0_feasible_74 ?_
            refine z_getN hX (C := RX5) (T := TX5) (N := 2) (ci := 5) rfl in_X5 1 (by decide) q698 (Or.inl rfl) dX0_feasible_75 (by first | assumption | exact zu_s _ _ _ | exact zu_o (by assumption) (by assumption) | exact zu_o (by assumption) (zu_o (by assumption) (by assumption)) | exact (zu_o (by first | assumption | exact Ne.symm (by assumption)) (zu_s _ _ _)) | exact (zu_o (by first | assumption | exact Ne.symm (by assumption)) (by assumption)) | exact (zu_o (by first | assumption | exact Ne.symm (by assumption)) (zu_o (by first | assumption | exact Ne.symm (by assumption)) (zu_s _ _ _))) | exact (zu_o (by first | assumption | exact Ne.symm (by assumption)) (zu_o (by first | assumption | exact Ne.symm (by assumption)) (by assumption))) | exact (zu_o (by first | assumption | exact Ne.symm (by assumption)) (zu_o (by first | assumption | exact Ne.symm (by assumption)) (zu_o (by first | assumption | exact Ne.symm (by assumption)) (zu_s _ _ _)))) | exact (zu_o (by first | assumption | exact Ne.symm (by assumption)) (zu_o (by first | assumption | exact Ne.symm (by assumption)) (zu_o (by first | assumption | exact Ne.symm (by assumption)) (by assumption)))) | exact (zu_o (by first | assumption | exact Ne.symm (by assumption)) (zu_o (by first | assumption | exact Ne.symm (by assumption)) (zu_o (by first | assumption | exact Ne.symm (by assumption)) (zu_o (by first | assumption | exact Ne.symm (by assumption)) (zu_s _ _ _))))) | exact (zu_o (by first | assumption | exact Ne.symm (by assumption)) (zu_o (by first | assumption | exact Ne.symm (by assumption)) (zu_o (by first | assumption | exact Ne.symm (by assumption)) (zu_o (by first | assumption | exact Ne.symm (by assumption)) (by assumption))))) | exact AL.at (by assumption) | exact EL.at (by assumption) | exact LL.at (by assumption)) rfl ?_
            (try rw [← hQ])
            refine z_lreturn hX dX0_feasible_78 (by omega) (by omega) ?_
            refine ⟨?_, hk3⟩
            rw [if_pos hn, ← hb, oR, if_neg (by rw [decide_eq_true_eq]; omega)]
            show _ = frD u.1 u.2
            unfold frD
            rw [hg1]
          · refine z_aload_n hX rfl (by first | rfl | exact va_rf_r _) dX0_feasible_67 ?_
            refine z_getN hX (C := RX5) (T := TX5) (N := 2) (ci := 5) rfl in_X5 0 (by decide) q691 (Or.inl rfl) dX0_feasible_68 (by first | assumption | exact zu_s _ _ _ | exact zu_o (by assumption) (by assumption) | exact zu_o (by assumption) (zu_o (by assumption) (by assumption)) | exact (zu_o (by first | assumption | exact Ne.symm (by assumption)) (zu_s _ _ _)) | exact (zu_o (by first | assumption | exact Ne.symm (by assumption)) (by assumption)) | exact (zu_o (by first | assumption | exact Ne.symm (by assumption)) (zu_o (by first | assumption | exact Ne.symm (by assumption)) (zu_s _ _ _))) | exact (zu_o (by first | assumption | exact Ne.symm (by assumption)) (zu_o (by first | assumption | exact Ne.symm (by assumption)) (by assumption))) | exact (zu_o (by first | assumption | exact Ne.symm (by assumption)) (zu_o (by first | assumption | exact Ne.symm (by assumption)) (zu_o (by first | assumption | exact Ne.symm (by assumption)) (zu_s _ _ _)))) | exact (zu_o (by first | assumption | exact Ne.symm (by assumption)) (zu_o (by first | assumption | exact Ne.symm (by assumption)) (zu_o (by first | assumption | exact Ne.symm (by assumption)) (by assumption)))) | exact (zu_o (by first | assumption | exact Ne.symm (by assumption)) (zu_o (by first | assumption | exact Ne.symm (by assumption)) (zu_o (by first | assumption | exact Ne.symm (by assumption)) (zu_o (by first | assumption | exact Ne.symm (by assumption)) (zu_s _ _ _))))) | exact (zu_o (by first | assumption | exact Ne.symm (by assumption)) (zu_o (by first | assumption | exact Ne.symm (by assumption)) (zu_o (by first | assumption | exact Ne.symm (by assumption)) (zu_o (by first | assumption | exact Ne.symm (by assumption)) (by assumption))))) | exact AL.at (by assumption) | exact EL.at (by assumption) | exact LL.at (by assumption)) rfl ?_
            refine z_goto hX (tgt := 78) dX0_feasible_71 rfl ?_
            (try rw [← hQ])
            refine z_lreturn hX dX0_feasible_78 (by omega) (by omega) ?_
            refine ⟨?_, hk3⟩
            rw [if_pos hn, ← hb, oR, if_pos (by rw [decide_eq_true_eq]; omega)]
            show _ = frN u.1 u.2
            unfold frN
            rw [hg1]
      refine z_iload_n hX rfl dX0_feasible_36 ?_
      refine z_iconst hX dX0_feasible_37 ?_
      refine z_icmp_ge hX (by omega) (by omega) dX0_feasible_38 (tgt := 48) rfl (fun h_38 => ?_) (fun h_38 => ?_)
      · refine z_aload_n hX rfl (by first | rfl | exact va_rf_r _) dX0_feasible_48 ?_
        refine z_getN hX (C := RX17) (T := TX17) (N := 11) (ci := 15) rfl in_X17 8 (by decide) q1266 (Or.inl rfl) dX0_feasible_49 (by first | assumption | exact zu_s _ _ _ | exact zu_o (by assumption) (by assumption) | exact zu_o (by assumption) (zu_o (by assumption) (by assumption)) | exact (zu_o (by first | assumption | exact Ne.symm (by assumption)) (zu_s _ _ _)) | exact (zu_o (by first | assumption | exact Ne.symm (by assumption)) (by assumption)) | exact (zu_o (by first | assumption | exact Ne.symm (by assumption)) (zu_o (by first | assumption | exact Ne.symm (by assumption)) (zu_s _ _ _))) | exact (zu_o (by first | assumption | exact Ne.symm (by assumption)) (zu_o (by first | assumption | exact Ne.symm (by assumption)) (by assumption))) | exact (zu_o (by first | assumption | exact Ne.symm (by assumption)) (zu_o (by first | assumption | exact Ne.symm (by assumption)) (zu_o (by first | assumption | exact Ne.symm (by assumption)) (zu_s _ _ _)))) | exact (zu_o (by first | assumption | exact Ne.symm (by assumption)) (zu_o (by first | assumption | exact Ne.symm (by assumption)) (zu_o (by first | assumption | exact Ne.symm (by assumption)) (by assumption)))) | exact (zu_o (by first | assumption | exact Ne.symm (by assumption)) (zu_o (by first | assumption | exact Ne.symm (by assumption)) (zu_o (by first | assumption | exact Ne.symm (by assumption)) (zu_o (by first | assumption | exact Ne.symm (by assumption)) (zu_s _ _ _))))) | exact (zu_o (by first | assumption | exact Ne.symm (by assumption)) (zu_o (by first | assumption | exact Ne.symm (by assumption)) (zu_o (by first | assumption | exact Ne.symm (by assumption)) (zu_o (by first | assumption | exact Ne.symm (by assumption)) (by assumption))))) | exact AL.at (by assumption) | exact EL.at (by assumption) | exact LL.at (by assumption)) rfl ?_
        refine fin hi (nAll a).2.1 hA2 ?_
        rw [hfe, if_neg (by omega), show decide (k % 2 = 0) = decide (k = 2) from decide_eq_decide.mpr (by omega)]
      · refine z_aload_n hX rfl (by first | rfl | exact va_rf_r _) dX0_feasible_41 ?_
        refine z_getN hX (C := RX17) (T := TX17) (N := 11) (ci := 15) rfl in_X17 7 (by decide) q1264 (Or.inl rfl) dX0_feasible_42 (by first | assumption | exact zu_s _ _ _ | exact zu_o (by assumption) (by assumption) | exact zu_o (by assumption) (zu_o (by assumption) (by assumption)) | exact (zu_o (by first | assumption | exact Ne.symm (by assumption)) (zu_s _ _ _)) | exact (zu_o (by first | assumption | exact Ne.symm (by assumption)) (by assumption)) | exact (zu_o (by first | assumption | exact Ne.symm (by assumption)) (zu_o (by first | assumption | exact Ne.symm (by assumption)) (zu_s _ _ _))) | exact (zu_o (by first | assumption | exact Ne.symm (by assumption)) (zu_o (by first | assumption | exact Ne.symm (by assumption)) (by assumption))) | exact (zu_o (by first | assumption | exact Ne.symm (by assumption)) (zu_o (by first | assumption | exact Ne.symm (by assumption)) (zu_o (by first | assumption | exact Ne.symm (by assumption)) (zu_s _ _ _)))) | exact (zu_o (by first | assumption | exact Ne.symm (by assumption)) (zu_o (by first | assumption | exact Ne.symm (by assumption)) (zu_o (by first | assumption | exact Ne.symm (by assumption)) (by assumption)))) | exact (zu_o (by first | assumption | exact Ne.symm (by assumption)) (zu_o (by first | assumption | exact Ne.symm (by assumption)) (zu_o (by first | assumption | exact Ne.symm (by assumption)) (zu_o (by first | assumption | exact Ne.symm (by assumption)) (zu_s _ _ _))))) | exact (zu_o (by first | assumption | exact Ne.symm (by assumption)) (zu_o (by first | assumption | exact Ne.symm (by assumption)) (zu_o (by first | assumption | exact Ne.symm (by assumption)) (zu_o (by first | assumption | exact Ne.symm (by assumption)) (by assumption))))) | exact AL.at (by assumption) | exact EL.at (by assumption) | exact LL.at (by assumption)) rfl ?_
        refine z_goto hX (tgt := 52) dX0_feasible_45 rfl ?_
        refine fin lo (nAll a).1 hA1 ?_
        rw [hfe, if_pos (by omega), show decide (k % 2 = 0) = decide (k = 0) from decide_eq_decide.mpr (by omega)]
    · obtain ⟨ac2, sn2, f2, hw2, hT2, hsq2, hr2, hpb2, hA, hG2, hk2⟩ := hW2
      refine z_ldc2_w hX (z := -1000003) q1100 (by decide) dX0_feasible_32 ?_
      (try rw [← hQ])
      refine z_lreturn hX dX0_feasible_35 (by omega) (by omega) ?_
      refine ⟨?_, hk2.kp2 f_16 hsq⟩
      rw [if_pos hn, feasR, if_pos]
      have h1 : (r_26 : Bool) = true := h_29
      rw [← hr] at h1
      exact h1
  · have hn : ¬ (0 ≤ k ∧ k ≤ 3) := of_decide_eq_false h_9
    refine z_ldc2_w hX (z := -1000002) q1099 (by decide) dX0_feasible_12 ?_
    (try rw [← hQ])
    refine z_lreturn hX dX0_feasible_15 (by omega) (by omega) ?_
    exact ⟨if_neg hn, zKp.rf _⟩
theorem gP_cnt {a : Int → Int} {es : List Int} (he : ∀ e ∈ es, 0 ≤ a (7 * e + 1) ∧ a (7 * e + 1) < 8) (hl : es.length ≤ 16) {z f : Int} (hf : 0 ≤ f ∧ f < 8) : (gD a z es 8 (fun v => decide (v = f)) f).length ≤ 324 := by
  have h1 := gD_cnt (z := z) he 8 (fun v => decide (v = f)) f
  have e1 : (fun v => decide (v = f)) = gtk (fun _ => false) f := by
    funext u
    show _ = (false || decide (u = f))
    rw [Bool.false_or]
  have h2 := prT_take a es (T := fun _ => false) (w := f) rfl (er 0 8) (er_nodup 0 8) (er_mem.mpr hf)
  have h3 := (gC_dG he 8 0 (by omega) (by omega)).2
  have h4 := prT_same a es (T := fun v => decide (v < 0)) (S := fun _ => false) (er 0 8) (fun u hu => decide_eq_false (by have := er_mem.mp hu; omega))
  have h5 := dP_le ((er 0 8).map (dgE a es)) 16 (by omega) (by rw [List.length_map, er_len]; decide) (Nat.le_trans (dgE_sum a es _ (er_nodup 0 8)) hl)
  rw [List.length_map, er_len] at h5
  have h6 : tPn (8 - 0 : Int).toNat 16 = 324 := by decide +kernel
  have h7 : dgE a es f * prT a es (fun v => decide (v = f)) (er 0 8) ≤ max1 (dgE a es f) * prT a es (gtk (fun _ => false) f) (er 0 8) := by
    rw [e1]
    exact Nat.mul_le_mul_right _ (max1_le _)
  omega
theorem x_co_best (l : Launch) (E : zE) {μ0 μ : zM} {x w sq : Nat} {to from_ : Int} {a : Int → Int} (hg : gV a) {B : Nat} (hB : B < 2 ^ 31) (h : W_co E μ0 x w sq (B : Int) to a (fun _ => false) [] none μ) (hto : 0 ≤ to ∧ to ≤ 7) (hfr : 0 ≤ from_ ∧ from_ ≤ 7) : Met l yX18_best (ws_ yX18_best cX18_best 2 (some (.object "RatioGraph$Finding"))) (zR 26 3564 9072) (va_Pc [.ref w, .int (zI from_)] (zPre E μ)) (zQq E (fun r μ' => FDr E μ0 μ' sq r (List.foldl (wst 2 a) none (gD a to ((er 0 (a 112)).filter (fun e => B.testBit e.toNat)) 8 (fun v => decide (v = from_)) from_)) ∧ zKx [w, sq] μ0 μ')) 3564 9072 (zA E) := by
  have h0 := h
  obtain ⟨ac, sn, f, hw, -⟩ := h
  have hoff : gD a to ((er 0 (a 112)).filter (fun e => B.testBit e.toNat)) 8 (cmb (gtk (fun _ => false) from_) (fun u => decide (u = to))) from_ = gD a to ((er 0 (a 112)).filter (fun e => B.testBit e.toNat)) 8 (fun v => decide (v = from_)) from_ := gD_off 8 (fun u hu => by
    show (false || decide (u = from_) || decide (u = to)) = _
    rw [decide_eq_false hu, Bool.or_false, Bool.false_or])
  have hgu : gu (cmb (gtk (fun _ => false) from_) (fun u => decide (u = to))) ≤ 7 := gu_taken (w := from_) hfr.1 (by omega) (by
    show (false || decide (from_ = from_) || _) = true
    simp)
  have hcnt : (gD a to ((er 0 (a 112)).filter (fun e => B.testBit e.toNat)) 8 (fun v => decide (v = from_)) from_).length ≤ 324 := gP_cnt (fun e he => by
    have := (hg.2 e (er_mem.mp (List.mem_filter.mp he).1).1 (er_mem.mp (List.mem_filter.mp he).1).2).2.1
    omega) (Nat.le_trans (List.length_filter_le _ _) (by rw [er_len]; have := hg.1; omega)) (by omega)
  have hwalk := x_co_walk l E hg hto hB 8 μ none [] from_ (fun _ => false) h0 (by omega) rfl (by simpa using hgu) (by omega)
  rw [hoff, show (fun x : List Int => [] ++ x) = id from funext (fun x => List.nil_append x), List.map_id] at hwalk
  refine zmet (cc := cX18_best) [_, _] (by decide) (Nat.le_of_ble_eq_true rfl) rfl rfl ?_
  intro X hl hX hinit; subst hl
  have hX : zOK X _ cX18_best RX18 (some (.object "RatioGraph$Finding")) 2 := hX
  generalize hQ : MQ _ _ _ _ _ _ _ = Q
  refine z_aload_n hX rfl (by first | rfl | exact va_rf_r _) dX18_best_0 ?_
  refine z_iload_n hX rfl dX18_best_1 ?_
  refine z_callv (z_runU hX (hwalk) (va_cwU 1 hX.ts (lw_U q1324 q1325 q1326 q814 q86 q815) rfl rfl rfl rfl (by decide +kernel) (zroom (by omega) (by decide))) dX18_best_2 (by first | assumption | exact zu_s _ _ _ | exact zu_o (by assumption) (by assumption) | exact zu_o (by assumption) (zu_o (by assumption) (by assumption)) | exact (zu_o (by first | assumption | exact Ne.symm (by assumption)) (zu_s _ _ _)) | exact (zu_o (by first | assumption | exact Ne.symm (by assumption)) (by assumption)) | exact (zu_o (by first | assumption | exact Ne.symm (by assumption)) (zu_o (by first | assumption | exact Ne.symm (by assumption)) (zu_s _ _ _))) | exact (zu_o (by first | assumption | exact Ne.symm (by assumption)) (zu_o (by first | assumption | exact Ne.symm (by assumption)) (by assumption))) | exact (zu_o (by first | assumption | exact Ne.symm (by assumption)) (zu_o (by first | assumption | exact Ne.symm (by assumption)) (zu_o (by first | assumption | exact Ne.symm (by assumption)) (zu_s _ _ _)))) | exact (zu_o (by first | assumption | exact Ne.symm (by assumption)) (zu_o (by first | assumption | exact Ne.symm (by assumption)) (zu_o (by first | assumption | exact Ne.symm (by assumption)) (by assumption)))) | exact (zu_o (by first | assumption | exact Ne.symm (by assumption)) (zu_o (by first | assumption | exact Ne.symm (by assumption)) (zu_o (by first | assumption | exact Ne.symm (by assumption)) (zu_o (by first | assumption | exact Ne.symm (by assumption)) (zu_s _ _ _))))) | exact (zu_o (by first | assumption | exact Ne.symm (by assumption)) (zu_o (by first | assumption | exact Ne.symm (by assumption)) (zu_o (by first | assumption | exact Ne.symm (by assumption)) (zu_o (by first | assumption | exact Ne.symm (by assumption)) (by assumption))))) | exact AL.at (by assumption) | exact EL.at (by assumption) | exact LL.at (by assumption)) (ci := 16) rfl rfl rfl rfl (by first | exact Nat.le_of_ble_eq_true rfl | simp [va_rf_c, Value.category]) (zhf (by omega) (by omega))) (fun μ_2 h_2 => ?_)
  obtain ⟨ac2, sn2, f2, hw2, hT2, hsq2, hr2, hpb2, hA2, hG2, hk2⟩ := h_2
  refine z_aload_n hX rfl (by first | rfl | exact va_rf_r _) dX18_best_5 ?_
  refine z_get hX (C := RX18) (T := TX18) (N := 8) (ci := 16) rfl in_X18 6 (by decide) q1306 (Or.inl rfl) dX18_best_6 (by first | assumption | exact zu_s _ _ _ | exact zu_o (by assumption) (by assumption) | exact zu_o (by assumption) (zu_o (by assumption) (by assumption)) | exact (zu_o (by first | assumption | exact Ne.symm (by assumption)) (zu_s _ _ _)) | exact (zu_o (by first | assumption | exact Ne.symm (by assumption)) (by assumption)) | exact (zu_o (by first | assumption | exact Ne.symm (by assumption)) (zu_o (by first | assumption | exact Ne.symm (by assumption)) (zu_s _ _ _))) | exact (zu_o (by first | assumption | exact Ne.symm (by assumption)) (zu_o (by first | assumption | exact Ne.symm (by assumption)) (by assumption))) | exact (zu_o (by first | assumption | exact Ne.symm (by assumption)) (zu_o (by first | assumption | exact Ne.symm (by assumption)) (zu_o (by first | assumption | exact Ne.symm (by assumption)) (zu_s _ _ _)))) | exact (zu_o (by first | assumption | exact Ne.symm (by assumption)) (zu_o (by first | assumption | exact Ne.symm (by assumption)) (zu_o (by first | assumption | exact Ne.symm (by assumption)) (by assumption)))) | exact (zu_o (by first | assumption | exact Ne.symm (by assumption)) (zu_o (by first | assumption | exact Ne.symm (by assumption)) (zu_o (by first | assumption | exact Ne.symm (by assumption)) (zu_o (by first | assumption | exact Ne.symm (by assumption)) (zu_s _ _ _))))) | exact (zu_o (by first | assumption | exact Ne.symm (by assumption)) (zu_o (by first | assumption | exact Ne.symm (by assumption)) (zu_o (by first | assumption | exact Ne.symm (by assumption)) (zu_o (by first | assumption | exact Ne.symm (by assumption)) (by assumption))))) | exact AL.at (by assumption) | exact EL.at (by assumption) | exact LL.at (by assumption)) rfl ?_
  (try rw [← hQ])
  first | refine z_areturn hX (r := some _) rfl (by first | exact Or.inl ⟨_, rfl⟩ | exact Or.inr ⟨_, rfl⟩) dX18_best_9 (by omega) (by omega) ?_ | refine z_areturn hX (r := none) rfl (by first | exact Or.inl ⟨_, rfl⟩ | exact Or.inr ⟨_, rfl⟩) dX18_best_9 (by omega) (by omega) ?_ | refine z_areturn hX rfl (by first | exact Or.inl ⟨_, rfl⟩ | exact Or.inr ⟨_, rfl⟩) dX18_best_9 (by omega) (by omega) ?_
  exact ⟨hA2, hk2⟩
theorem x_convert (l : Launch) (E : zE) {μ : zM} {x L h mk tx : Nat} {tl : Int} {fo pc : Option Nat} {hs : Int} (hx : μ x = some (zx0 L h mk tx tl fo pc hs)) {a : Int → Int} (hG : xG E μ x a) (hg : gV a) {f z : Int} (hf : iR f) (hz : iR z) : Met l yX0_convert (ws_ yX0_convert cX0_convert 3 (some .int)) (zR 27 3570 9095) (va_Pc [.ref x, .int (zI f), .int (zI z)] (zPre E μ)) (zQi E (fun r μ' => if (0 ≤ f ∧ f ≤ 7) ∧ 0 ≤ z ∧ z ≤ 7 then kpP E μ x L h mk tx tl fo pc hs ((cvBest a f z).map redB) r μ' else gBAD = r ∧ zKp μ μ')) 3570 9095 (zA E) := by
  have h16 := hg.1
  refine zmet (cc := cX0_convert) [_, _, _] (by decide) (Nat.le_of_ble_eq_true rfl) rfl rfl ?_
  intro X hl hX hinit; subst hl
  have hX : zOK X _ cX0_convert RX0 (some .int) 3 := hX
  generalize hQ : MQ _ _ _ _ _ _ _ = Q
  refine z_iconst hX dX0_convert_0 ?_
  refine z_newI hX 2 q187 dX0_convert_1 rfl (by decide) (by omega) (by omega) (fun q_1 f_1 => ?_)
  refine z_dup hX (by first | rfl | exact va_rf_c _) dX0_convert_3 ?_
  refine z_iconst hX dX0_convert_4 ?_
  refine z_iload_n hX rfl dX0_convert_5 ?_
  refine z_iastore hX dX0_convert_6 (by first | assumption | exact zu_s _ _ _ | exact zu_o (by assumption) (by assumption) | exact zu_o (by assumption) (zu_o (by assumption) (by assumption)) | exact (zu_o (by first | assumption | exact Ne.symm (by assumption)) (zu_s _ _ _)) | exact (zu_o (by first | assumption | exact Ne.symm (by assumption)) (by assumption)) | exact (zu_o (by first | assumption | exact Ne.symm (by assumption)) (zu_o (by first | assumption | exact Ne.symm (by assumption)) (zu_s _ _ _))) | exact (zu_o (by first | assumption | exact Ne.symm (by assumption)) (zu_o (by first | assumption | exact Ne.symm (by assumption)) (by assumption))) | exact (zu_o (by first | assumption | exact Ne.symm (by assumption)) (zu_o (by first | assumption | exact Ne.symm (by assumption)) (zu_o (by first | assumption | exact Ne.symm (by assumption)) (zu_s _ _ _)))) | exact (zu_o (by first | assumption | exact Ne.symm (by assumption)) (zu_o (by first | assumption | exact Ne.symm (by assumption)) (zu_o (by first | assumption | exact Ne.symm (by assumption)) (by assumption)))) | exact (zu_o (by first | assumption | exact Ne.symm (by assumption)) (zu_o (by first | assumption | exact Ne.symm (by assumption)) (zu_o (by first | assumption | exact Ne.symm (by assumption)) (zu_o (by first | assumption | exact Ne.symm (by assumption)) (zu_s _ _ _))))) | exact (zu_o (by first | assumption | exact Ne.symm (by assumption)) (zu_o (by first | assumption | exact Ne.symm (by assumption)) (zu_o (by first | assumption | exact Ne.symm (by assumption)) (zu_o (by first | assumption | exact Ne.symm (by assumption)) (by assumption))))) | exact AL.at (by assumption) | exact EL.at (by assumption) | exact LL.at (by assumption)) (by omega) ?_
  refine z_dup hX (by first | rfl | exact va_rf_c _) dX0_convert_7 ?_
  refine z_iconst hX dX0_convert_8 ?_
  refine z_iload_n hX rfl dX0_convert_9 ?_
  refine z_iastore hX dX0_convert_10 (by first | assumption | exact zu_s _ _ _ | exact zu_o (by assumption) (by assumption) | exact zu_o (by assumption) (zu_o (by assumption) (by assumption)) | exact (zu_o (by first | assumption | exact Ne.symm (by assumption)) (zu_s _ _ _)) | exact (zu_o (by first | assumption | exact Ne.symm (by assumption)) (by assumption)) | exact (zu_o (by first | assumption | exact Ne.symm (by assumption)) (zu_o (by first | assumption | exact Ne.symm (by assumption)) (zu_s _ _ _))) | exact (zu_o (by first | assumption | exact Ne.symm (by assumption)) (zu_o (by first | assumption | exact Ne.symm (by assumption)) (by assumption))) | exact (zu_o (by first | assumption | exact Ne.symm (by assumption)) (zu_o (by first | assumption | exact Ne.symm (by assumption)) (zu_o (by first | assumption | exact Ne.symm (by assumption)) (zu_s _ _ _)))) | exact (zu_o (by first | assumption | exact Ne.symm (by assumption)) (zu_o (by first | assumption | exact Ne.symm (by assumption)) (zu_o (by first | assumption | exact Ne.symm (by assumption)) (by assumption)))) | exact (zu_o (by first | assumption | exact Ne.symm (by assumption)) (zu_o (by first | assumption | exact Ne.symm (by assumption)) (zu_o (by first | assumption | exact Ne.symm (by assumption)) (zu_o (by first | assumption | exact Ne.symm (by assumption)) (zu_s _ _ _))))) | exact (zu_o (by first | assumption | exact Ne.symm (by assumption)) (zu_o (by first | assumption | exact Ne.symm (by assumption)) (zu_o (by first | assumption | exact Ne.symm (by assumption)) (zu_o (by first | assumption | exact Ne.symm (by assumption)) (by assumption))))) | exact AL.at (by assumption) | exact EL.at (by assumption) | exact LL.at (by assumption)) (by omega) ?_
  refine z_callb (z_runS hX (x_areNodes _ _ (zu_s _ _ _) (by decide) (zf_iR (zf_iR (fun _ => by unfold iR; omega) hf) hz)) (va_cwS 1 hX.ts (lw_S q193 q194 q65 q195) rfl rfl rfl (by decide +kernel) (zroom (by decide) (by decide))) dX0_convert_11 rfl rfl rfl (by first | exact Nat.le_of_ble_eq_true rfl | simp [va_rf_c, Value.category]) (zhf (by omega) (by omega))) (fun r_11 μ_11 h_11 => ?_)
  obtain ⟨rfl, rfl⟩ := h_11; rw [nd2]
  refine z_if_ne_b hX dX0_convert_14 (tgt := 20) rfl (fun h_14 => ?_) (fun h_14 => ?_)
  · have hn : (0 ≤ f ∧ f ≤ 7) ∧ 0 ≤ z ∧ z ≤ 7 := by
      rw [Bool.and_eq_true] at h_14
      exact ⟨of_decide_eq_true h_14.1, of_decide_eq_true h_14.2⟩
    have hk1 : zKp μ (zu (zu (zu μ q_1 (zai E 2 (fun _ => 0))) q_1 (zai E 2 (zf (fun _ => 0) 0 f))) q_1 (zai E 2 (zf (zf (fun _ => 0) 0 f) 1 z))) := (((zKp.rf μ).nu f_1 _).nu f_1 _).nu f_1 _
    generalize zu (zu (zu μ q_1 (zai E 2 (fun _ => 0))) q_1 (zai E 2 (zf (fun _ => 0) 0 f))) q_1 (zai E 2 (zf (zf (fun _ => 0) 0 f) 1 z)) = μ1 at hk1
    have hx1 := hk1 _ _ hx
    refine z_aload_n hX rfl (by first | rfl | exact va_rf_r _) dX0_convert_20 ?_
    refine z_iload_n hX rfl dX0_convert_21 ?_
    refine z_iload_n hX rfl dX0_convert_22 ?_
    refine z_icmp_ne hX (by omega) (by omega) dX0_convert_23 (tgt := 48) rfl (fun h_23 => ?_) (fun h_23 => ?_)
    · have hfz : f ≠ z := by omega
      refine z_new hX (C := RX18) (T := TX18) (N := 8) (ci := 16) rfl in_X18 tyX18 tyX18_ok q1298 q1299 q97 dX0_convert_48 (fs := [.int (zI 0), .null, .int (zI 0), .int (zI 0), .null, .int (zI 0), .null, .null]) (by decide) (by omega) (by omega) (fun q_48 f_48 => ?_)
      have hk0 := zKp.new f_48 (zob 16 [.int (zI 0), .null, .int (zI 0), .int (zI 0), .null, .int (zI 0), .null, .null])
      refine z_dup hX (by first | rfl | exact va_rf_c _) dX0_convert_51 ?_
      refine z_aload_n hX rfl (by first | rfl | exact va_rf_r _) dX0_convert_52 ?_
      refine z_iload_n hX rfl dX0_convert_53 ?_
      refine z_callv (z_runI hX (x_co_init _ _ (zu_s _ _ _) ((hG.kp hk1).kp hk0)) (cwI 2 hX.ts (lw_meth q1302) rfl rfl rfl (hX.t q97) (hX.t q1300) (hX.t q1301) rfl (by decide +kernel) (zroom (by decide) (by decide))) dX0_convert_54 rfl rfl rfl (by first | exact Nat.le_of_ble_eq_true rfl | simp [va_rf_c, Value.category]) (zhf (by omega) (by omega))) (fun μ_54 h_54 => ?_)
      obtain ⟨sq, hsq, hW⟩ := h_54; have hW0 := hW; obtain ⟨ac, sn, f0, hw, -⟩ := hW0
      refine z_iload_n hX rfl dX0_convert_57 ?_
      refine z_callq (z_runV hX (x_co_best _ _ hg (by have : (2:Nat) ^ (a 112).toNat ≤ 2 ^ 16 := Nat.pow_le_pow_right (by omega) (by omega); omega) hW hn.2 hn.1) (cwV 1 hX.ts (lw_V q1320 q1321 q1322 q97 q1323) rfl rfl rfl (by decide +kernel) (zroom (by decide) (by decide))) dX0_convert_58 (by first | assumption | exact zu_s _ _ _ | exact zu_o (by assumption) (by assumption) | exact zu_o (by assumption) (zu_o (by assumption) (by assumption)) | exact (zu_o (by first | assumption | exact Ne.symm (by assumption)) (zu_s _ _ _)) | exact (zu_o (by first | assumption | exact Ne.symm (by assumption)) (by assumption)) | exact (zu_o (by first | assumption | exact Ne.symm (by assumption)) (zu_o (by first | assumption | exact Ne.symm (by assumption)) (zu_s _ _ _))) | exact (zu_o (by first | assumption | exact Ne.symm (by assumption)) (zu_o (by first | assumption | exact Ne.symm (by assumption)) (by assumption))) | exact (zu_o (by first | assumption | exact Ne.symm (by assumption)) (zu_o (by first | assumption | exact Ne.symm (by assumption)) (zu_o (by first | assumption | exact Ne.symm (by assumption)) (zu_s _ _ _)))) | exact (zu_o (by first | assumption | exact Ne.symm (by assumption)) (zu_o (by first | assumption | exact Ne.symm (by assumption)) (zu_o (by first | assumption | exact Ne.symm (by assumption)) (by assumption)))) | exact (zu_o (by first | assumption | exact Ne.symm (by assumption)) (zu_o (by first | assumption | exact Ne.symm (by assumption)) (zu_o (by first | assumption | exact Ne.symm (by assumption)) (zu_o (by first | assumption | exact Ne.symm (by assumption)) (zu_s _ _ _))))) | exact (zu_o (by first | assumption | exact Ne.symm (by assumption)) (zu_o (by first | assumption | exact Ne.symm (by assumption)) (zu_o (by first | assumption | exact Ne.symm (by assumption)) (zu_o (by first | assumption | exact Ne.symm (by assumption)) (by assumption))))) | exact AL.at (by assumption) | exact EL.at (by assumption) | exact LL.at (by assumption)) (ci := 16) rfl rfl rfl rfl (by first | exact Nat.le_of_ble_eq_true rfl | simp [va_rf_c, Value.category]) (zhf (by omega) (by omega))) (fun r_58 μ_58 h_58 => ?_)
      obtain ⟨hF, hk2⟩ := h_58; have hk3 := hk1.tr (hk2.kp2 f_48 hsq); have hx3 := hk3 _ _ hx; rw [all_edges h16.1] at hF; have hF2 := hF.k.base (hk1.tr hk0)
      refine z_calli (z_runV hX (x_keep _ _ hx3 hx hk3 hF2) (cwV 1 hX.ts (lw_V q987 q989 qs22 q65 q990) rfl rfl rfl (by decide +kernel) (zroom (by decide) (by decide))) dX0_convert_61 (by first | assumption | exact zu_s _ _ _ | exact zu_o (by assumption) (by assumption) | exact zu_o (by assumption) (zu_o (by assumption) (by assumption)) | exact (zu_o (by first | assumption | exact Ne.symm (by assumption)) (zu_s _ _ _)) | exact (zu_o (by first | assumption | exact Ne.symm (by assumption)) (by assumption)) | exact (zu_o (by first | assumption | exact Ne.symm (by assumption)) (zu_o (by first | assumption | exact Ne.symm (by assumption)) (zu_s _ _ _))) | exact (zu_o (by first | assumption | exact Ne.symm (by assumption)) (zu_o (by first | assumption | exact Ne.symm (by assumption)) (by assumption))) | exact (zu_o (by first | assumption | exact Ne.symm (by assumption)) (zu_o (by first | assumption | exact Ne.symm (by assumption)) (zu_o (by first | assumption | exact Ne.symm (by assumption)) (zu_s _ _ _)))) | exact (zu_o (by first | assumption | exact Ne.symm (by assumption)) (zu_o (by first | assumption | exact Ne.symm (by assumption)) (zu_o (by first | assumption | exact Ne.symm (by assumption)) (by assumption)))) | exact (zu_o (by first | assumption | exact Ne.symm (by assumption)) (zu_o (by first | assumption | exact Ne.symm (by assumption)) (zu_o (by first | assumption | exact Ne.symm (by assumption)) (zu_o (by first | assumption | exact Ne.symm (by assumption)) (zu_s _ _ _))))) | exact (zu_o (by first | assumption | exact Ne.symm (by assumption)) (zu_o (by first | assumption | exact Ne.symm (by assumption)) (zu_o (by first | assumption | exact Ne.symm (by assumption)) (zu_o (by first | assumption | exact Ne.symm (by assumption)) (by assumption))))) | exact AL.at (by assumption) | exact EL.at (by assumption) | exact LL.at (by assumption)) (ci := 0) rfl rfl rfl rfl (by first | exact Nat.le_of_ble_eq_true rfl | simp [va_rf_c, Value.category]) (zhf (by omega) (by omega))) (fun r_61 μ_61 h_61 => ?_)
      (try rw [← hQ])
      refine z_ireturn hX dX0_convert_64 (by omega) (by omega) ?_
      rw [if_pos hn, cvBest, if_neg hfz]
      exact h_61
    · have hfz : f = z := by omega
      refine z_new hX (C := RX10) (T := TX10) (N := 2) (ci := 8) rfl in_X10 tyX10 tyX10_ok q1296 q900 q89 dX0_convert_26 (fs := [.null, .null]) (by decide) (by omega) (by omega) (fun q_26 f_26 => ?_)
      have hk0 := zKp.new f_26 (zob 8 [.null, .null])
      refine z_dup hX (by first | rfl | exact va_rf_c _) dX0_convert_29 ?_
      refine z_iconst hX dX0_convert_30 ?_
      refine z_newI hX 0 q187 dX0_convert_31 rfl (by decide) (by omega) (by omega) (fun q_31 f_31 => ?_)
      have hk00 := zKp.new f_31 (zai E 0 (fun _ => 0))
      refine z_iconst hX dX0_convert_33 ?_
      refine z_new hX (C := RX5) (T := TX5) (N := 2) (ci := 5) rfl in_X5 tyX5 tyX5_ok q673 q674 q84 dX0_convert_34 (fs := [.long (zJ 0), .long (zJ 0)]) (by decide) (by omega) (by omega) (fun q_34 f_34 => ?_)
      have hk000 := zKp.new f_34 (zob 5 [.long (zJ 0), .long (zJ 0)])
      have hfi := hk000 _ _ (hk00 _ _ (zu_s μ1 q_26 (zob 8 [.null, .null])))
      have har0 := hk000 _ _ (zu_s (zu μ1 q_26 (zob 8 [.null, .null])) q_31 (zai E 0 (fun _ => 0)))
      have hK := ((hk0.tr hk00).tr hk000)
      refine z_dup hX (by first | rfl | exact va_rf_c _) dX0_convert_37 ?_
      refine z_lconst hX (z := 1) (by decide) dX0_convert_38 ?_
      refine z_callv (z_runI hX (x_frI1 _ _ (zu_s _ _ _) (n := 1) (by unfold lB; omega)) (cwI 1 hX.ts (lw_meth q880) rfl rfl rfl (hX.t q84) (hX.t q1182) (hX.t q879) rfl (by decide +kernel) (zroom (by decide) (by decide))) dX0_convert_39 rfl rfl rfl (by first | exact Nat.le_of_ble_eq_true rfl | simp [va_rf_c, Value.category]) (zhf (by omega) (by omega))) (fun μ_39 h_39 => ?_)
      obtain rfl := h_39; rw [zu_zu]
      have hkF := zKp.new f_34 (zfr 1 1)
      have hfi2 := hkF _ _ (hk00 _ _ (zu_s μ1 q_26 (zob 8 [.null, .null])))
      have har2 := hkF _ _ (zu_s (zu μ1 q_26 (zob 8 [.null, .null])) q_31 (zai E 0 (fun _ => 0)))
      have hfr2 := zu_s (zu (zu μ1 q_26 (zob 8 [.null, .null])) q_31 (zai E 0 (fun _ => 0))) q_34 (zfr 1 1)
      have hK2 := (hk0.tr hk00).tr hkF
      generalize zu (zu (zu μ1 q_26 (zob 8 [.null, .null])) q_31 (zai E 0 (fun _ => 0))) q_34 (zfr 1 1) = μ2 at hfi2 har2 hfr2 hK2
      refine z_callv (z_runI hX (x_fiI _ _ hfi2 har2 (k := 0) (by omega)) (cwI 3 hX.ts (lw_meth q903) rfl rfl rfl (hX.t q89) (hX.t q1297) (hX.t q902) rfl (by decide +kernel) (zroom (by decide) (by decide))) dX0_convert_42 rfl rfl rfl (by first | exact Nat.le_of_ble_eq_true rfl | simp [va_rf_c, Value.category]) (zhf (by omega) (by omega))) (fun μ_42 h_42 => ?_)
      obtain ⟨ar, g, har, hgi, rfl⟩ := h_42
      refine z_goto hX (tgt := 61) dX0_convert_45 rfl ?_
      have hxa := hK2 _ _ hx1
      have hk5 : zKp μ1 (zu (zu μ2 ar (zai E 0 g)) q_26 (zob 8 [.ref ar, .ref q_34])) := (hK2.nu (hK2.no har) _).nu f_26 _
      have hx5 := hk5 _ _ hx1
      have hk6 := hk1.tr hk5
      have hfa : ar ≠ q_26 := Ne.symm (zne hfi2 har)
      have hff : q_34 ≠ q_26 := zkne hfr2 hfi2 (by show (5 : Nat) ≠ 8; decide)
      have hfr : q_34 ≠ ar := zne hfr2 har
      have hF : FDk E μ (zu (zu μ2 ar (zai E 0 g)) q_26 (zob 8 [.ref ar, .ref q_34])) (some q_26) ((some (1, 1, []) : bT).map redB) := ⟨q_26, ar, q_34, g, rfl, zu_s _ _ _, by rw [zu_n hfa, zu_s]; rfl, rowIs_nil _, by rw [zu_n hff, zu_n hfr]; exact hfr2, Nat.zero_le _, (fun e he => by cases he), (hk1.tr hK2).no har⟩
      refine z_calli (z_runV hX (x_keep _ _ hx5 hx hk6 hF) (cwV 1 hX.ts (lw_V q987 q989 qs22 q65 q990) rfl rfl rfl (by decide +kernel) (zroom (by decide) (by decide))) dX0_convert_61 (by first | assumption | exact zu_s _ _ _ | exact zu_o (by assumption) (by assumption) | exact zu_o (by assumption) (zu_o (by assumption) (by assumption)) | exact (zu_o (by first | assumption | exact Ne.symm (by assumption)) (zu_s _ _ _)) | exact (zu_o (by first | assumption | exact Ne.symm (by assumption)) (by assumption)) | exact (zu_o (by first | assumption | exact Ne.symm (by assumption)) (zu_o (by first | assumption | exact Ne.symm (by assumption)) (zu_s _ _ _))) | exact (zu_o (by first | assumption | exact Ne.symm (by assumption)) (zu_o (by first | assumption | exact Ne.symm (by assumption)) (by assumption))) | exact (zu_o (by first | assumption | exact Ne.symm (by assumption)) (zu_o (by first | assumption | exact Ne.symm (by assumption)) (zu_o (by first | assumption | exact Ne.symm (by assumption)) (zu_s _ _ _)))) | exact (zu_o (by first | assumption | exact Ne.symm (by assumption)) (zu_o (by first | assumption | exact Ne.symm (by assumption)) (zu_o (by first | assumption | exact Ne.symm (by assumption)) (by assumption)))) | exact (zu_o (by first | assumption | exact Ne.symm (by assumption)) (zu_o (by first | assumption | exact Ne.symm (by assumption)) (zu_o (by first | assumption | exact Ne.symm (by assumption)) (zu_o (by first | assumption | exact Ne.symm (by assumption)) (zu_s _ _ _))))) | exact (zu_o (by first | assumption | exact Ne.symm (by assumption)) (zu_o (by first | assumption | exact Ne.symm (by assumption)) (zu_o (by first | assumption | exact Ne.symm (by assumption)) (zu_o (by first | assumption | exact Ne.symm (by assumption)) (by assumption))))) | exact AL.at (by assumption) | exact EL.at (by assumption) | exact LL.at (by assumption)) (ci := 0) rfl rfl rfl rfl (by first | exact Nat.le_of_ble_eq_true rfl | simp [va_rf_c, Value.category]) (zhf (by omega) (by omega))) (fun r_61 μ_61 h_61 => ?_)
      (try rw [← hQ])
      refine z_ireturn hX dX0_convert_64 (by omega) (by omega) ?_
      rw [if_pos hn, cvBest, if_pos hfz]
      exact h_61
  · have hn : ¬ ((0 ≤ f ∧ f ≤ 7) ∧ 0 ≤ z ∧ z ≤ 7) := fun q => by rw [decide_eq_true q.1, decide_eq_true q.2] at h_14; cases h_14
    refine z_ldc hX (z := -1000002) q208 (by decide) dX0_convert_17 ?_
    (try rw [← hQ])
    refine z_ireturn hX dX0_convert_19 (by omega) (by omega) ?_
    rw [if_neg hn]
    exact ⟨rfl, (((zKp.rf μ).nu f_1 _).nu f_1 _).nu f_1 _⟩
