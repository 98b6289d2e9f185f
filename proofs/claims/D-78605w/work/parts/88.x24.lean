/-! X SIDE 24: least mean by least weights of walks -/
set_option maxRecDepth 100000
/-- a fraction in lowest terms, looser bounds -/
def FM (μ : zM) (ac : Option Nat) : Option (Int × Int) → Prop
  | none => ac = none
  | some b => ∃ fr, ac = some fr ∧ μ fr = some (zfr (frN b.1 b.2) (frD b.1 b.2)) ∧ (-2000 ≤ b.1 ∧ b.1 ≤ 2000) ∧ (1 ≤ b.2 ∧ b.2 ≤ 8)
theorem FM.kp {μ μ' : zM} {ac : Option Nat} {α : Option (Int × Int)} (h : FM μ ac α) (k : zKp μ μ') : FM μ' ac α := by
  cases α with
  | none => exact h
  | some b =>
    obtain ⟨fr, h1, h2, h3⟩ := h
    exact ⟨fr, h1, k _ _ h2, h3⟩
/-- the greatest mean at a node -/
def gmJ (w : Int × Int) (β : Option (Int × Int)) : Option (Int × Int) := match β with
  | none => some w
  | some b => if 0 < gsg (w.1 * b.2 - b.1 * w.2) then some w else some b
def gmS (T : Int → Int → Int) (v : Int) (β : Option (Int × Int)) (k : Int) : Option (Int × Int) := if T k v < 1125899906842624 then gmJ (T 8 v - T k v, 8 - k) β else β
def gmF (T : Int → Int → Int) (v : Int) : Option (Int × Int) := (er 0 8).foldl (gmS T v) none
/-- the table -/
def TB (E : zE) (μ : zM) (tb : Nat) (T : Int → Int → Int) : Prop := μ tb = some (zaq E 5 9 (fun i => some (tb + 1 + i.toNat))) ∧ ∀ k : Int, 0 ≤ k → k ≤ 8 → ∃ f, μ (tb + 1 + k.toNat) = some (zaj E 8 f) ∧ eq8 f (T k)
theorem TB.kp {E : zE} {μ μ' : zM} {tb : Nat} {T : Int → Int → Int} (h : TB E μ tb T) (k : zKp μ μ') : TB E μ' tb T := ⟨k _ _ h.1, fun i i0 i1 => by
  obtain ⟨f, h1, h2⟩ := h.2 i i0 i1
  exact ⟨f, k _ _ h1, h2⟩⟩
def tB (T : Int → Int → Int) : Prop := ∀ k v, 0 ≤ k → k ≤ 8 → 0 ≤ v → v ≤ 7 → T k v = 1125899906842624 ∨ (-800 ≤ T k v ∧ T k v ≤ 800)
theorem x_greatest (l : Launch) (E : zE) {μ : zM} {tb : Nat} {T : Int → Int → Int} (hTB : TB E μ tb T) (hb : tB T) {v : Int} (hv : 0 ≤ v ∧ v ≤ 7) (h8 : T 8 v < 1125899906842624) : Met l yX0_greatestMean (ws_ yX0_greatestMean cX0_greatestMean 5 (some (.object "RatioGraph$Fraction"))) (zR 3 8 16) (va_Pc [.ref tb, .int (zI v)] (zPre E μ)) (zQq E (fun r μ' => FM μ' r (gmF T v) ∧ zKp μ μ')) 8 16 (zA E) := by
  unfold gmF
  generalize hR : (er 0 8).foldl (gmS T v) none = R
  have b8 := hb 8 v (by omega) (by omega) hv.1 hv.2
  refine zmet (cc := cX0_greatestMean) [_, _, _, _, _] (by decide) (Nat.le_of_ble_eq_true rfl) rfl rfl ?_
  intro X hl hX hinit; subst hl
  have hX : zOK X _ cX0_greatestMean RX0 (some (.object "RatioGraph$Fraction")) 5 := hX
  generalize hQ : MQ _ _ _ _ _ _ _ = Q
  have loop : ∀ (k : Nat) (i : Int) (μ1 : zM) (ac : Option Nat) (β : Option (Int × Int)) (ce sl : Nat), 0 ≤ i → i ≤ 8 → 8 < i + k → zKp μ μ1 → FM μ1 ac β → (er i 8).foldl (gmS T v) β = R → (ce : Int) ≤ i → (sl : Int) ≤ 2 * i → ∀ y, zW X (zR 3 8 16) E (μ1) ce sl Q 4 [some (.ref tb), some (.int (zI v)), some (va_rf ac), some (.int (zI i)), y] [] := by
    intro k
    induction k with
    | zero => intros; exfalso; omega
    | succ k ih =>
      intro i μ1 ac β ce sl i0 i1 hk hkp hA hs hce hsl y
      refine zW.mask [true, true, true, true, false] (lv' := [_, _, _, _, none]) rfl ?_
      refine z_iload_n hX rfl dX0_greatestMean_4 ?_
      refine z_bipush hX (by decide) dX0_greatestMean_5 ?_
      refine z_icmp_ge hX (by omega) (by omega) dX0_greatestMean_7 (tgt := 74) rfl (fun h_7 => ?_) (fun h_7 => ?_)
      · rw [er_nil (by omega)] at hs
        subst hs
        refine z_aload_n hX rfl (by first | rfl | exact va_rf_r _) dX0_greatestMean_74 ?_
        (try rw [← hQ])
        first | refine z_areturn hX (r := some _) rfl (by first | exact Or.inl ⟨_, rfl⟩ | exact Or.inr ⟨_, rfl⟩) dX0_greatestMean_75 (by omega) (by omega) ?_ | refine z_areturn hX (r := none) rfl (by first | exact Or.inl ⟨_, rfl⟩ | exact Or.inr ⟨_, rfl⟩) dX0_greatestMean_75 (by omega) (by omega) ?_ | refine z_areturn hX rfl (by first | exact Or.inl ⟨_, rfl⟩ | exact Or.inr ⟨_, rfl⟩) dX0_greatestMean_75 (by omega) (by omega) ?_
        exact ⟨hA, hkp⟩
      · obtain ⟨ht, hrows⟩ := hTB.kp hkp
        obtain ⟨f, hf, hfe⟩ := hrows i i0 (by omega)
        obtain ⟨g, hg, hge⟩ := hrows 8 (by omega) (by omega)
        have bi := hb i v i0 (by omega) hv.1 hv.2
        have fv := hfe v hv.1 hv.2
        have gv := hge v hv.1 hv.2
        rw [er_cons (show i < 8 by omega), List.foldl_cons] at hs
        rw [← fv] at bi
        rw [← gv] at b8 h8
        refine z_aload_n hX rfl (by first | rfl | exact va_rf_r _) dX0_greatestMean_10 ?_
        refine z_iload_n hX rfl dX0_greatestMean_11 ?_
        refine z_aaloadB hX (b := tb + 1 + i.toNat) dX0_greatestMean_12 ht rfl (by omega) ?_
        refine z_iload_n hX rfl dX0_greatestMean_13 ?_
        refine z_laload hX dX0_greatestMean_14 (by first | assumption | exact zu_s _ _ _ | exact zu_o (by assumption) (by assumption) | exact zu_o (by assumption) (zu_o (by assumption) (by assumption)) | exact (zu_o (by first | assumption | exact Ne.symm (by assumption)) (zu_s _ _ _)) | exact (zu_o (by first | assumption | exact Ne.symm (by assumption)) (by assumption)) | exact (zu_o (by first | assumption | exact Ne.symm (by assumption)) (zu_o (by first | assumption | exact Ne.symm (by assumption)) (zu_s _ _ _))) | exact (zu_o (by first | assumption | exact Ne.symm (by assumption)) (zu_o (by first | assumption | exact Ne.symm (by assumption)) (by assumption))) | exact (zu_o (by first | assumption | exact Ne.symm (by assumption)) (zu_o (by first | assumption | exact Ne.symm (by assumption)) (zu_o (by first | assumption | exact Ne.symm (by assumption)) (zu_s _ _ _)))) | exact (zu_o (by first | assumption | exact Ne.symm (by assumption)) (zu_o (by first | assumption | exact Ne.symm (by assumption)) (zu_o (by first | assumption | exact Ne.symm (by assumption)) (by assumption)))) | exact (zu_o (by first | assumption | exact Ne.symm (by assumption)) (zu_o (by first | assumption | exact Ne.symm (by assumption)) (zu_o (by first | assumption | exact Ne.symm (by assumption)) (zu_o (by first | assumption | exact Ne.symm (by assumption)) (zu_s _ _ _))))) | exact (zu_o (by first | assumption | exact Ne.symm (by assumption)) (zu_o (by first | assumption | exact Ne.symm (by assumption)) (zu_o (by first | assumption | exact Ne.symm (by assumption)) (zu_o (by first | assumption | exact Ne.symm (by assumption)) (by assumption))))) | exact AL.at (by assumption) | exact EL.at (by assumption) | exact LL.at (by assumption)) (by omega) ?_
        refine z_ldc2_w hX (z := 1125899906842624) q666 (by decide) dX0_greatestMean_15 ?_
        refine z_lcmp_ge hX (by omega) (by omega) dX0_greatestMean_18 dX0_greatestMean_19 (tgt := 68) rfl (fun h_18 => ?_) (fun h_18 => ?_)
        · have hnf : ¬ T i v < 1125899906842624 := by rw [← fv]; omega
          rw [show gmS T v β i = β by unfold gmS; rw [if_neg hnf]] at hs
          refine z_iinc hX (lv' := [_, _, _, _, _]) rfl (Nat.le_of_ble_eq_true rfl) (by first | exact zpre_0 | exact zpre_n rfl | exact zpre_1 rfl rfl | exact zpre_1 rfl (va_rf_c _)) rfl dX0_greatestMean_68 ?_
          refine z_goto hX (tgt := 4) dX0_greatestMean_71 rfl ?_
          exact ih (i + 1) μ1 ac β ce sl (by omega) (by omega) (by omega) hkp hA hs (by omega) (by omega) _
        · have hnf : T i v < 1125899906842624 := by rw [← fv]; omega
          refine z_new hX (C := RX5) (T := TX5) (N := 2) (ci := 5) rfl in_X5 tyX5 tyX5_ok q673 q674 q84 dX0_greatestMean_22 (fs := [.long (zJ 0), .long (zJ 0)]) (by decide) (by omega) (by omega) (fun q_22 f_22 => ?_)
          have hk0 := zKp.new f_22 (zob 5 [.long (zJ 0), .long (zJ 0)])
          have ht1 := hk0 _ _ ht
          have hf1 := hk0 _ _ hf
          have hg1 := hk0 _ _ hg
          refine z_dup hX (by first | rfl | exact va_rf_c _) dX0_greatestMean_25 ?_
          refine z_aload_n hX rfl (by first | rfl | exact va_rf_r _) dX0_greatestMean_26 ?_
          refine z_bipush hX (by decide) dX0_greatestMean_27 ?_
          refine z_aaloadB hX (b := tb + 1 + (8:Int).toNat) dX0_greatestMean_29 ht1 rfl (by omega) ?_
          refine z_iload_n hX rfl dX0_greatestMean_30 ?_
          refine z_laload hX dX0_greatestMean_31 (by first | assumption | exact zu_s _ _ _ | exact zu_o (by assumption) (by assumption) | exact zu_o (by assumption) (zu_o (by assumption) (by assumption)) | exact (zu_o (by first | assumption | exact Ne.symm (by assumption)) (zu_s _ _ _)) | exact (zu_o (by first | assumption | exact Ne.symm (by assumption)) (by assumption)) | exact (zu_o (by first | assumption | exact Ne.symm (by assumption)) (zu_o (by first | assumption | exact Ne.symm (by assumption)) (zu_s _ _ _))) | exact (zu_o (by first | assumption | exact Ne.symm (by assumption)) (zu_o (by first | assumption | exact Ne.symm (by assumption)) (by assumption))) | exact (zu_o (by first | assumption | exact Ne.symm (by assumption)) (zu_o (by first | assumption | exact Ne.symm (by assumption)) (zu_o (by first | assumption | exact Ne.symm (by assumption)) (zu_s _ _ _)))) | exact (zu_o (by first | assumption | exact Ne.symm (by assumption)) (zu_o (by first | assumption | exact Ne.symm (by assumption)) (zu_o (by first | assumption | exact Ne.symm (by assumption)) (by assumption)))) | exact (zu_o (by first | assumption | exact Ne.symm (by assumption)) (zu_o (by first | assumption | exact Ne.symm (by assumption)) (zu_o (by first | assumption | exact Ne.symm (by assumption)) (zu_o (by first | assumption | exact Ne.symm (by assumption)) (zu_s _ _ _))))) | exact (zu_o (by first | assumption | exact Ne.symm (by assumption)) (zu_o (by first | assumption | exact Ne.symm (by assumption)) (zu_o (by first | assumption | exact Ne.symm (by assumption)) (zu_o (by first | assumption | exact Ne.symm (by assumption)) (by assumption))))) | exact AL.at (by assumption) | exact EL.at (by assumption) | exact LL.at (by assumption)) (by omega) ?_
          refine z_aload_n hX rfl (by first | rfl | exact va_rf_r _) dX0_greatestMean_32 ?_
          refine z_iload_n hX rfl dX0_greatestMean_33 ?_
          refine z_aaloadB hX (b := tb + 1 + i.toNat) dX0_greatestMean_34 ht1 rfl (by omega) ?_
          refine z_iload_n hX rfl dX0_greatestMean_35 ?_
          refine z_laload hX dX0_greatestMean_36 (by first | assumption | exact zu_s _ _ _ | exact zu_o (by assumption) (by assumption) | exact zu_o (by assumption) (zu_o (by assumption) (by assumption)) | exact (zu_o (by first | assumption | exact Ne.symm (by assumption)) (zu_s _ _ _)) | exact (zu_o (by first | assumption | exact Ne.symm (by assumption)) (by assumption)) | exact (zu_o (by first | assumption | exact Ne.symm (by assumption)) (zu_o (by first | assumption | exact Ne.symm (by assumption)) (zu_s _ _ _))) | exact (zu_o (by first | assumption | exact Ne.symm (by assumption)) (zu_o (by first | assumption | exact Ne.symm (by assumption)) (by assumption))) | exact (zu_o (by first | assumption | exact Ne.symm (by assumption)) (zu_o (by first | assumption | exact Ne.symm (by assumption)) (zu_o (by first | assumption | exact Ne.symm (by assumption)) (zu_s _ _ _)))) | exact (zu_o (by first | assumption | exact Ne.symm (by assumption)) (zu_o (by first | assumption | exact Ne.symm (by assumption)) (zu_o (by first | assumption | exact Ne.symm (by assumption)) (by assumption)))) | exact (zu_o (by first | assumption | exact Ne.symm (by assumption)) (zu_o (by first | assumption | exact Ne.symm (by assumption)) (zu_o (by first | assumption | exact Ne.symm (by assumption)) (zu_o (by first | assumption | exact Ne.symm (by assumption)) (zu_s _ _ _))))) | exact (zu_o (by first | assumption | exact Ne.symm (by assumption)) (zu_o (by first | assumption | exact Ne.symm (by assumption)) (zu_o (by first | assumption | exact Ne.symm (by assumption)) (zu_o (by first | assumption | exact Ne.symm (by assumption)) (by assumption))))) | exact AL.at (by assumption) | exact EL.at (by assumption) | exact LL.at (by assumption)) (by omega) ?_
          refine z_lsub hX dX0_greatestMean_37 ?_
          refine z_bipush hX (by decide) dX0_greatestMean_38 ?_
          refine z_iload_n hX rfl dX0_greatestMean_40 ?_
          refine z_isub hX dX0_greatestMean_41 ?_
          refine z_i2l hX (by omega) dX0_greatestMean_42 ?_
          refine z_callv (z_runI hX (x_frI (n := g v - f v) (d := 8 - i) _ _ (zu_s μ1 q_22 (zfr 0 0)) (by unfold lB; omega) (by unfold lB; omega) (by omega)) (cwI 2 hX.ts (lw_meth q677) rfl rfl rfl (hX.t q84) (hX.t q675) (hX.t q676) rfl (by decide +kernel) (zroom (by decide) (by decide))) dX0_greatestMean_43 rfl rfl rfl (by first | exact Nat.le_of_ble_eq_true rfl | simp [va_rf_c, Value.category]) (zhf (by omega) (by omega))) (fun μ_43 h_43 => ?_)
          obtain rfl := h_43; rw [zu_zu]
          refine z_astore hX (lv' := [_, _, _, _, _]) (by first | rfl | exact va_rf_r _) (Nat.le_of_ble_eq_true rfl) (by first | exact zpre_0 | exact zpre_n rfl | exact zpre_1 rfl rfl | exact zpre_1 rfl (va_rf_c _)) rfl dX0_greatestMean_46 ?_
          have hk1 := zKp.new f_22 (zfr (frN (g v - f v) (8 - i)) (frD (g v - f v) (8 - i)))
          have hnew : FM (zu μ1 q_22 (zfr (frN (g v - f v) (8 - i)) (frD (g v - f v) (8 - i)))) (some q_22) (some (g v - f v, 8 - i)) := ⟨q_22, rfl, zu_s _ _ _, by dsimp only; omega, by dsimp only; omega⟩
          have hS : gmS T v β i = gmJ (g v - f v, 8 - i) β := by
            unfold gmS
            rw [if_pos hnf, gv, fv]
          rw [hS] at hs
          have hk2 := hkp.tr hk1
          cases β with
          | none =>
            obtain rfl : ac = none := hA
            refine z_aload_n hX rfl (by first | rfl | exact va_rf_r _) dX0_greatestMean_48 ?_
            refine z_ifnull_0 hX dX0_greatestMean_49 (tgt := 61) rfl ?_
            refine z_aload hX rfl (by first | rfl | exact va_rf_r _) dX0_greatestMean_61 ?_
            refine z_goto hX (tgt := 67) dX0_greatestMean_63 rfl ?_
            refine z_astore_n hX (lv' := [_, _, _, _, _]) (by first | rfl | exact va_rf_r _) (Nat.le_of_ble_eq_true rfl) (by first | exact zpre_0 | exact zpre_n rfl | exact zpre_1 rfl rfl | exact zpre_1 rfl (va_rf_c _)) rfl dX0_greatestMean_67 ?_
            refine z_iinc hX (lv' := [_, _, _, _, _]) rfl (Nat.le_of_ble_eq_true rfl) (by first | exact zpre_0 | exact zpre_n rfl | exact zpre_1 rfl rfl | exact zpre_1 rfl (va_rf_c _)) rfl dX0_greatestMean_68 ?_
            refine z_goto hX (tgt := 4) dX0_greatestMean_71 rfl ?_
            exact ih (i + 1) _ (some q_22) _ _ _ (by omega) (by omega) (by omega) hk2 hnew hs (by omega) (by omega) _
          | some bb =>
            have hA0 := hA
            obtain ⟨fr, rfl, hfr, hb1, hb2⟩ := hA
            have hfr1 := hk1 _ _ hfr
            have d1 := frD_pos (n := g v - f v) (d := 8 - i) (by omega)
            have d2 := frD_le (n := g v - f v) (d := 8 - i) (by omega)
            have d3 := frN_le (n := g v - f v) (d := 8 - i) (M := 2000) (by omega) (by omega) (by omega)
            have d4 := frD_pos (n := bb.1) (d := bb.2) (by omega)
            have d5 := frD_le (n := bb.1) (d := bb.2) (by omega)
            have d6 := frN_le (n := bb.1) (d := bb.2) (M := 2000) (by omega) (by omega) (by omega)
            have hs1 := fr_sg (n := g v - f v) (d := 8 - i) (p := bb.1) (q := bb.2) (by omega) (by omega)
            have hsr := gsg_r ((g v - f v) * bb.2 - bb.1 * (8 - i))
            simp only [gmJ] at hs
            refine z_aload_n hX rfl (by first | rfl | exact va_rf_r _) dX0_greatestMean_48 ?_
            refine z_ifnull_r hX dX0_greatestMean_49 ?_
            refine z_aload hX rfl (by first | rfl | exact va_rf_r _) dX0_greatestMean_52 ?_
            refine z_aload_n hX rfl (by first | rfl | exact va_rf_r _) dX0_greatestMean_54 ?_
            refine z_calli (z_runV hX (x_frC _ _ (zu_s _ _ _) hfr1 (by unfold lB; omega) (by omega) (by unfold lB; omega) (by omega)) (cwV 1 hX.ts (lw_V q705 q706 q707 q84 q708) rfl rfl rfl (by decide +kernel) (zroom (by decide) (by decide))) dX0_greatestMean_55 (by first | assumption | exact zu_s _ _ _ | exact zu_o (by assumption) (by assumption) | exact zu_o (by assumption) (zu_o (by assumption) (by assumption)) | exact (zu_o (by first | assumption | exact Ne.symm (by assumption)) (zu_s _ _ _)) | exact (zu_o (by first | assumption | exact Ne.symm (by assumption)) (by assumption)) | exact (zu_o (by first | assumption | exact Ne.symm (by assumption)) (zu_o (by first | assumption | exact Ne.symm (by assumption)) (zu_s _ _ _))) | exact (zu_o (by first | assumption | exact Ne.symm (by assumption)) (zu_o (by first | assumption | exact Ne.symm (by assumption)) (by assumption))) | exact (zu_o (by first | assumption | exact Ne.symm (by assumption)) (zu_o (by first | assumption | exact Ne.symm (by assumption)) (zu_o (by first | assumption | exact Ne.symm (by assumption)) (zu_s _ _ _)))) | exact (zu_o (by first | assumption | exact Ne.symm (by assumption)) (zu_o (by first | assumption | exact Ne.symm (by assumption)) (zu_o (by first | assumption | exact Ne.symm (by assumption)) (by assumption)))) | exact (zu_o (by first | assumption | exact Ne.symm (by assumption)) (zu_o (by first | assumption | exact Ne.symm (by assumption)) (zu_o (by first | assumption | exact Ne.symm (by assumption)) (zu_o (by first | assumption | exact Ne.symm (by assumption)) (zu_s _ _ _))))) | exact (zu_o (by first | assumption | exact Ne.symm (by assumption)) (zu_o (by first | assumption | exact Ne.symm (by assumption)) (zu_o (by first | assumption | exact Ne.symm (by assumption)) (zu_o (by first | assumption | exact Ne.symm (by assumption)) (by assumption))))) | exact AL.at (by assumption) | exact EL.at (by assumption) | exact LL.at (by assumption)) (ci := 5) rfl rfl rfl rfl (by first | exact Nat.le_of_ble_eq_true rfl | simp [va_rf_c, Value.category]) (zhf (by omega) (by omega))) (fun r_55 μ_55 h_55 => ?_)
            obtain ⟨rfl, rfl⟩ := h_55; rw [hs1]
            refine z_if_le hX (by omega) dX0_greatestMean_58 (tgt := 66) rfl (fun h_58 => ?_) (fun h_58 => ?_)
            · rw [if_neg (by omega)] at hs
              refine z_aload_n hX rfl (by first | rfl | exact va_rf_r _) dX0_greatestMean_66 ?_
              refine z_astore_n hX (lv' := [_, _, _, _, _]) (by first | rfl | exact va_rf_r _) (Nat.le_of_ble_eq_true rfl) (by first | exact zpre_0 | exact zpre_n rfl | exact zpre_1 rfl rfl | exact zpre_1 rfl (va_rf_c _)) rfl dX0_greatestMean_67 ?_
              refine z_iinc hX (lv' := [_, _, _, _, _]) rfl (Nat.le_of_ble_eq_true rfl) (by first | exact zpre_0 | exact zpre_n rfl | exact zpre_1 rfl rfl | exact zpre_1 rfl (va_rf_c _)) rfl dX0_greatestMean_68 ?_
              refine z_goto hX (tgt := 4) dX0_greatestMean_71 rfl ?_
              exact ih (i + 1) _ (some fr) _ _ _ (by omega) (by omega) (by omega) hk2 (hA0.kp hk1) hs (by omega) (by omega) _
            · rw [if_pos (by omega)] at hs
              refine z_aload hX rfl (by first | rfl | exact va_rf_r _) dX0_greatestMean_61 ?_
              refine z_goto hX (tgt := 67) dX0_greatestMean_63 rfl ?_
              refine z_astore_n hX (lv' := [_, _, _, _, _]) (by first | rfl | exact va_rf_r _) (Nat.le_of_ble_eq_true rfl) (by first | exact zpre_0 | exact zpre_n rfl | exact zpre_1 rfl rfl | exact zpre_1 rfl (va_rf_c _)) rfl dX0_greatestMean_67 ?_
              refine z_iinc hX (lv' := [_, _, _, _, _]) rfl (Nat.le_of_ble_eq_true rfl) (by first | exact zpre_0 | exact zpre_n rfl | exact zpre_1 rfl rfl | exact zpre_1 rfl (va_rf_c _)) rfl dX0_greatestMean_68 ?_
              refine z_goto hX (tgt := 4) dX0_greatestMean_71 rfl ?_
              exact ih (i + 1) _ (some q_22) _ _ _ (by omega) (by omega) (by omega) hk2 hnew hs (by omega) (by omega) _
  refine z_null hX dX0_greatestMean_0 ?_
  refine z_astore_n hX (lv' := [_, _, _, _, _]) (by first | rfl | exact va_rf_r _) (Nat.le_of_ble_eq_true rfl) (by first | exact zpre_0 | exact zpre_n rfl | exact zpre_1 rfl rfl | exact zpre_1 rfl (va_rf_c _)) rfl dX0_greatestMean_1 ?_
  refine z_iconst hX dX0_greatestMean_2 ?_
  refine z_istore_n hX (lv' := [_, _, _, _, _]) (Nat.le_of_ble_eq_true rfl) (by first | exact zpre_0 | exact zpre_n rfl | exact zpre_1 rfl rfl | exact zpre_1 rfl (va_rf_c _)) rfl dX0_greatestMean_3 ?_
  exact loop 9 0 μ none none 0 0 (by omega) (by omega) (by omega) (zKp.rf _) rfl hR (by omega) (by omega) none
/-- least weights of walks of k edges, by the last node -/
def kE (a p cur : Int → Int) (e : Int) : Int → Int := if p (a (7 * e)) < 1125899906842624 then zf cur (a (7 * e + 1)) (min (cur (a (7 * e + 1))) (p (a (7 * e)) + a (7 * e + 2))) else cur
def kT (a : Int → Int) : Nat → Int → Int
  | 0 => fun _ => 0
  | k + 1 => (er 0 (a 112)).foldl (kE a (kT a k)) (fun _ => 1125899906842624)
def kmJ (w : Option (Int × Int)) (β : Option (Int × Int)) : Option (Int × Int) := match w, β with
  | none, β => β
  | some u, none => some u
  | some u, some b => if gsg (u.1 * b.2 - b.1 * u.2) < 0 then some u else some b
def kmS (a : Int → Int) (β : Option (Int × Int)) (v : Int) : Option (Int × Int) := kmJ (if kT a 8 v < 1125899906842624 then gmF (fun k => kT a k.toNat) v else none) β
/-- the least mean -/
def kmG (a : Int → Int) : Option (Int × Int) := (er 0 8).foldl (kmS a) none
def kB (M : Int) (f : Int → Int) : Prop := ∀ v, 0 ≤ v → v ≤ 7 → f v = 1125899906842624 ∨ (-M ≤ f v ∧ f v ≤ M)
theorem kE_b {a p cur : Int → Int} {M : Int} {e : Int} (hg : gV a) (h0 : 0 ≤ e) (h1 : e < a 112) (hM : 0 ≤ M ∧ M ≤ 10000) (hp : kB M p) (hc : kB (M + 99) cur) : kB (M + 99) (kE a p cur e) := by
  have he := hg.2 e h0 h1
  unfold eV at he
  unfold kE
  split
  · next q =>
    have b1 := hp _ he.1.1 he.1.2
    have b2 := hc _ he.2.1.1 he.2.1.2
    intro v v0 v7
    have b3 := hc v v0 v7
    by_cases r : v = a (7 * e + 1)
    · rw [r, zf_s]
      omega
    · rw [zf_n r]
      exact b3
  · exact hc
theorem kL_b {a p : Int → Int} {M : Int} (hg : gV a) (hM : 0 ≤ M ∧ M ≤ 10000) (hp : kB M p) : ∀ (es : List Int) (cur : Int → Int), (∀ e ∈ es, 0 ≤ e ∧ e < a 112) → kB (M + 99) cur → kB (M + 99) (es.foldl (kE a p) cur)
  | [], _, _, h => h
  | e :: es, cur, hm, h => by
    have h1 := hm e List.mem_cons_self
    exact kL_b hg hM hp es _ (fun z hz => hm z (List.mem_cons_of_mem _ hz)) (kE_b hg h1.1 h1.2 hM hp h)
theorem kT_b {a : Int → Int} (hg : gV a) : ∀ k : Nat, k ≤ 100 → kB (99 * k) (kT a k)
  | 0, _ => fun v _ _ => Or.inr (by show -(99 * ((0 : Nat) : Int)) ≤ 0 ∧ (0 : Int) ≤ 99 * ((0 : Nat) : Int); omega)
  | k + 1, hk => by
    have h1 := kT_b hg k (by omega)
    have h2 := kL_b hg (M := 99 * (k : Int)) (by omega) h1 (er 0 (a 112)) (fun _ => 1125899906842624) (fun e he => er_mem.mp he) (fun v _ _ => Or.inl rfl)
    rw [show 99 * ((k + 1 : Nat) : Int) = 99 * (k : Int) + 99 by omega]
    exact h2
theorem kE_8 {a p q f g : Int → Int} (hn : nV a) {e : Int} (h0 : 0 ≤ e) (h1 : e < a 112) (hp : eq8 p q) (h : eq8 f g) : eq8 (kE a p f e) (kE a q g e) := by
  obtain ⟨k1, k2⟩ := hn e h0 h1
  unfold kE
  rw [hp _ k1.1 k1.2, h _ k2.1 k2.2]
  split
  · exact zf_8 h rfl
  · exact h
theorem kT_in {a : Int → Int} (hg : gV a) : tB (fun k => kT a k.toNat) := fun k v k0 k8 v0 v7 => by
  have := kT_b hg k.toNat (by omega) v v0 v7
  dsimp only
  omega
