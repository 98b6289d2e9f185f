/-! X SIDE 2: fractions -/
set_option maxRecDepth 100000
abbrev zfr (n d : Int) : va_E := zob 5 [.long (zJ n), .long (zJ d)]
theorem zu_zu (μ : zM) (a : Nat) (e f : va_E) : zu (zu μ a e) a f = zu μ a f := by
  funext b
  simp only [zu]
  split <;> rfl
theorem zne {μ : zM} {a q : Nat} {e : va_E} (ha : μ a = some e) (hq : μ q = none) : a ≠ q := fun h => by
  rw [h, hq] at ha
  cases ha
theorem x_gcd (l : Launch) (E : zE) (μ : zM) {a b : Int} (ha : lB a) (hb : lB b) : Met l yX5_commonDivisor (ws_ yX5_commonDivisor cX5_commonDivisor 10 (some .long)) (zR 1 0 0) (va_Pc [.long (zJ a), .long (zJ b)] (zPre E μ)) (zQl E (fun r μ' => μ = μ' ∧ (Int.gcd a b : Int) = r)) 0 0 (zA E) := by
  unfold lB at ha hb
  refine zmet (cc := cX5_commonDivisor) [_, _, _, _, _, _, _, _, _, _] (by decide) (Nat.le_of_ble_eq_true rfl) rfl rfl ?_
  intro X hl hX hinit; subst hl
  have hX : zOK X _ cX5_commonDivisor RX5 (some .long) 10 := hX
  generalize hQ : MQ _ _ _ _ _ _ _ = Q
  have loop : ∀ (k P W : Nat), W < k → P ≤ 1000000000000000000 → W ≤ 1000000000000000000 → Nat.gcd P W = Int.gcd a b → ∀ y, zW X (zR 1 0 0) E (μ) 0 0 Q 12 [some (.long (zJ a)), none, some (.long (zJ b)), none, some (.long (zJ (P : Int))), none, some (.long (zJ (W : Int))), none, y, none] [] := by
    intro k
    induction k with
    | zero => intros; exfalso; omega
    | succ k ih =>
      intro P W hk hP hW hg y
      refine zW.mask [true, true, true, true, true, true, true, true, false, false] (lv' := [_, _, _, _, _, _, _, _, none, none]) rfl ?_
      refine z_lload hX rfl dX5_commonDivisor_12 ?_
      refine z_lconst hX (z := 0) (by decide) dX5_commonDivisor_14 ?_
      refine z_lcmp_eq hX (by omega) (by omega) dX5_commonDivisor_15 dX5_commonDivisor_16 (tgt := 37) rfl (fun h_15 => ?_) (fun h_15 => ?_)
      · obtain rfl : W = 0 := by omega
        rw [Nat.gcd_zero_right] at hg
        refine z_lload hX rfl dX5_commonDivisor_37 ?_
        (try rw [← hQ])
        refine z_lreturn hX dX5_commonDivisor_39 (by omega) (by omega) ?_
        exact ⟨rfl, by rw [hg]⟩
      · have h1 : P % W < W := Nat.mod_lt _ (by omega)
        have h2 : ((P : Int).tmod (W : Int)) = ((P % W : Nat) : Int) := by rw [Int.tmod_eq_emod_of_nonneg (by omega)]; rfl
        refine z_lload hX rfl dX5_commonDivisor_19 ?_
        refine z_lload hX rfl dX5_commonDivisor_21 ?_
        refine z_lremt hX (by omega) (by omega) (by omega) dX5_commonDivisor_23 ?_; rw [h2]
        refine z_lstore hX (lv' := [_, _, _, _, _, _, _, _, _, _]) (Nat.le_of_ble_eq_true rfl) (by first | exact zpre_0 | exact zpre_n rfl | exact zpre_1 rfl rfl | exact zpre_1 rfl (va_rf_c _)) rfl rfl dX5_commonDivisor_24 ?_
        refine z_lload hX rfl dX5_commonDivisor_26 ?_
        refine z_lstore hX (lv' := [_, _, _, _, _, _, _, _, _, _]) (Nat.le_of_ble_eq_true rfl) (by first | exact zpre_0 | exact zpre_n rfl | exact zpre_1 rfl rfl | exact zpre_1 rfl (va_rf_c _)) rfl rfl dX5_commonDivisor_28 ?_
        refine z_lload hX rfl dX5_commonDivisor_30 ?_
        refine z_lstore hX (lv' := [_, _, _, _, _, _, _, _, _, _]) (Nat.le_of_ble_eq_true rfl) (by first | exact zpre_0 | exact zpre_n rfl | exact zpre_1 rfl rfl | exact zpre_1 rfl (va_rf_c _)) rfl rfl dX5_commonDivisor_32 ?_
        refine z_goto hX (tgt := 12) dX5_commonDivisor_34 rfl ?_
        exact ih W (P % W) (by omega) (by omega) (by omega) (by rw [← gcd_step]; exact hg) _
  refine z_lload_n hX rfl dX5_commonDivisor_0 ?_
  refine z_calll (z_runS hX (x_abs _ _ _ (by unfold lR; omega)) (va_cwS 1 hX.ts (lw_S q682 q683 q75 q684) rfl rfl rfl (by decide +kernel) (zroom (by decide) (by decide))) dX5_commonDivisor_1 rfl rfl rfl (by first | exact Nat.le_of_ble_eq_true rfl | simp [va_rf_c, Value.category]) (zhf (by omega) (by omega))) (fun r_1 μ_1 h_1 => ?_)
  obtain ⟨rfl, rfl⟩ := h_1
  refine z_lstore hX (lv' := [_, _, _, _, _, _, _, _, _, _]) (Nat.le_of_ble_eq_true rfl) (by first | exact zpre_0 | exact zpre_n rfl | exact zpre_1 rfl rfl | exact zpre_1 rfl (va_rf_c _)) rfl rfl dX5_commonDivisor_4 ?_
  refine z_lload_n hX rfl dX5_commonDivisor_6 ?_
  refine z_calll (z_runS hX (x_abs _ _ _ (by unfold lR; omega)) (va_cwS 1 hX.ts (lw_S q682 q683 q75 q684) rfl rfl rfl (by decide +kernel) (zroom (by decide) (by decide))) dX5_commonDivisor_7 rfl rfl rfl (by first | exact Nat.le_of_ble_eq_true rfl | simp [va_rf_c, Value.category]) (zhf (by omega) (by omega))) (fun r_7 μ_7 h_7 => ?_)
  obtain ⟨rfl, rfl⟩ := h_7
  refine z_lstore hX (lv' := [_, _, _, _, _, _, _, _, _, _]) (Nat.le_of_ble_eq_true rfl) (by first | exact zpre_0 | exact zpre_n rfl | exact zpre_1 rfl rfl | exact zpre_1 rfl (va_rf_c _)) rfl rfl dX5_commonDivisor_10 ?_
  exact loop (b.natAbs + 1) a.natAbs b.natAbs (by omega) (by omega) (by omega) rfl _
/-- lowest terms -/
def frG (n d : Int) : Int := if d < 0 then - (Int.gcd n d : Int) else (Int.gcd n d : Int)
def frN (n d : Int) : Int := n / frG n d
def frD (n d : Int) : Int := d / frG n d
theorem frG_ne {n d : Int} (h : d ≠ 0) : frG n d ≠ 0 := by
  have h1 : 0 < Int.gcd n d := Int.gcd_pos_of_ne_zero_right _ h
  unfold frG
  split <;> omega
theorem frG_dvd (n d : Int) : frG n d ∣ n ∧ frG n d ∣ d := by
  have h1 : (Int.gcd n d : Int) ∣ n := Int.gcd_dvd_left _ _
  have h2 : (Int.gcd n d : Int) ∣ d := Int.gcd_dvd_right _ _
  unfold frG
  split
  · exact ⟨Int.neg_dvd.mpr h1, Int.neg_dvd.mpr h2⟩
  · exact ⟨h1, h2⟩
theorem frG_r {n d : Int} (hd : lB d) (h : d ≠ 0) : lB (frG n d) := by
  have h1 : 0 < Int.gcd n d := Int.gcd_pos_of_ne_zero_right _ h
  have h2 : Int.gcd n d ≤ d.natAbs := Nat.le_of_dvd (by omega) (Int.gcd_dvd_natAbs_right n d)
  unfold lB frG at *
  split <;> omega
theorem x_frI (l : Launch) (E : zE) {μ : zM} {a : Nat} {u v : Int} (ha : μ a = some (zfr u v)) {n d : Int} (hn : lB n) (hd : lB d) (h0 : d ≠ 0) : Met l yX5_init (ws_ yX5_init cX5_init 7 none) (zR 2 0 0) (va_Pc [.ref a, .long (zJ n), .long (zJ d)] (zPre E μ)) (zQv E (fun μ' => zu μ a (zfr (frN n d) (frD n d)) = μ')) 0 0 (zA E) := by
  have h1 := frG_ne (n := n) h0
  have h2 := frG_r (n := n) hd h0
  obtain ⟨d1, d2⟩ := frG_dvd n d
  have hd' := hd
  have hn' := hn
  unfold lB at hd' hn' h2
  have e1 : n.tdiv (frG n d) = frN n d := Int.tdiv_eq_ediv_of_dvd d1
  have e2 : d.tdiv (frG n d) = frD n d := Int.tdiv_eq_ediv_of_dvd d2
  refine zmet (cc := cX5_init) [_, _, _, _, _, _, _] (by decide) (Nat.le_of_ble_eq_true rfl) rfl rfl ?_
  intro X hl hX hinit; subst hl
  have hX : zOK X _ cX5_init RX5 none 7 := hX
  generalize hQ : MQ _ _ _ _ _ _ _ = Q
  have fin : zW X (zR 2 0 0) E (μ) 0 0 Q 26 [some (.ref a), some (.long (zJ n)), none, some (.long (zJ d)), none, some (.long (zJ (frG n d))), none] [] := by
    refine z_aload_n hX rfl (by first | rfl | exact va_rf_r _) dX5_init_26 ?_
    refine z_lload_n hX rfl dX5_init_27 ?_
    refine z_lload hX rfl dX5_init_28 ?_
    refine z_ldivt hX (by omega) (by omega) (by omega) dX5_init_30 ?_; rw [e1]
    refine z_putF hX hinit (C := RX5) (T := TX5) (N := 2) (ci := 5) rfl in_X5 tyX5 tyX5_ok zn_X5 0 (by decide) q686 (Or.inl rfl) rfl rfl rfl dX5_init_31 (by first | assumption | exact zu_s _ _ _ | exact zu_o (by assumption) (by assumption) | exact zu_o (by assumption) (zu_o (by assumption) (by assumption))) (Nat.le_of_ble_eq_true rfl) (by first | rfl | exact znar _ | exact znarb _) (by first | rfl | exact zfit _ | exact zfitb _) rfl ?_
    refine z_aload_n hX rfl (by first | rfl | exact va_rf_r _) dX5_init_34 ?_
    refine z_lload_n hX rfl dX5_init_35 ?_
    refine z_lload hX rfl dX5_init_36 ?_
    refine z_ldivt hX (by omega) (by omega) (by omega) dX5_init_38 ?_; rw [e2]
    refine z_putF hX hinit (C := RX5) (T := TX5) (N := 2) (ci := 5) rfl in_X5 tyX5 tyX5_ok zn_X5 1 (by decide) q693 (Or.inl rfl) rfl rfl rfl dX5_init_39 (by first | assumption | exact zu_s _ _ _ | exact zu_o (by assumption) (by assumption) | exact zu_o (by assumption) (zu_o (by assumption) (by assumption))) (Nat.le_of_ble_eq_true rfl) (by first | rfl | exact znar _ | exact znarb _) (by first | rfl | exact zfit _ | exact zfitb _) rfl ?_
    (try rw [← hQ])
    refine z_return hX dX5_init_42 (by omega) (by omega) ?_
    exact (zu_zu _ _ _ _).symm
  refine z_aload_n hX rfl (by first | rfl | exact va_rf_r _) dX5_init_0 ?_
  refine z_objInit hX q678 dX5_init_1 rfl ⟨Nat.le_of_ble_eq_true rfl, Nat.le_of_ble_eq_true rfl⟩ (by first | exact Nat.le_of_ble_eq_true rfl | simp [va_rf_c, Value.category]) ?_
  refine z_lload_n hX rfl dX5_init_4 ?_
  refine z_lconst hX (z := 0) (by decide) dX5_init_5 ?_
  refine z_lcmp_ge hX (by omega) (by omega) dX5_init_6 dX5_init_7 (tgt := 19) rfl (fun h_6 => ?_) (fun h_6 => ?_)
  · refine z_lload_n hX rfl dX5_init_19 ?_
    refine z_lload_n hX rfl dX5_init_20 ?_
    refine z_calll (z_runS hX (x_gcd _ _ _ hn hd) (va_cwS 2 hX.ts (lw_S q679 q680 q84 q681) rfl rfl rfl (by decide +kernel) (zroom (by decide) (by decide))) dX5_init_21 rfl rfl rfl (by first | exact Nat.le_of_ble_eq_true rfl | simp [va_rf_c, Value.category]) (zhf (by omega) (by omega))) (fun r_21 μ_21 h_21 => ?_)
    obtain ⟨rfl, rfl⟩ := h_21
    refine z_lstore hX (lv' := [_, _, _, _, _, _, _]) (Nat.le_of_ble_eq_true rfl) (by first | exact zpre_0 | exact zpre_n rfl | exact zpre_1 rfl rfl | exact zpre_1 rfl (va_rf_c _)) rfl rfl dX5_init_24 ?_
    have e : frG n d = (Int.gcd n d : Int) := by rw [frG, if_neg (by omega)]
    rw [e] at fin
    exact fin
  · refine z_lload_n hX rfl dX5_init_10 ?_
    refine z_lload_n hX rfl dX5_init_11 ?_
    refine z_calll (z_runS hX (x_gcd _ _ _ hn hd) (va_cwS 2 hX.ts (lw_S q679 q680 q84 q681) rfl rfl rfl (by decide +kernel) (zroom (by decide) (by decide))) dX5_init_12 rfl rfl rfl (by first | exact Nat.le_of_ble_eq_true rfl | simp [va_rf_c, Value.category]) (zhf (by omega) (by omega))) (fun r_12 μ_12 h_12 => ?_)
    obtain ⟨rfl, rfl⟩ := h_12
    refine z_lneg hX dX5_init_15 ?_
    refine z_goto hX (tgt := 24) dX5_init_16 rfl ?_
    refine z_lstore hX (lv' := [_, _, _, _, _, _, _]) (Nat.le_of_ble_eq_true rfl) (by first | exact zpre_0 | exact zpre_n rfl | exact zpre_1 rfl rfl | exact zpre_1 rfl (va_rf_c _)) rfl rfl dX5_init_24 ?_
    have e : frG n d = - (Int.gcd n d : Int) := by rw [frG, if_pos (by omega)]
    rw [e] at fin
    exact fin
theorem x_frI1 (l : Launch) (E : zE) {μ : zM} {a : Nat} {u v : Int} (ha : μ a = some (zfr u v)) {n : Int} (hn : lB n) : Met l yX5_init_2 (ws_ yX5_init_2 cX5_init_2 3 none) (zR 3 0 0) (va_Pc [.ref a, .long (zJ n)] (zPre E μ)) (zQv E (fun μ' => zu μ a (zfr n 1) = μ')) 0 0 (zA E) := by
  have e1 : frG n 1 = 1 := by rw [frG, if_neg (by omega), Int.gcd_one_right]; rfl
  have e2 : frN n 1 = n := by rw [frN, e1, Int.ediv_one]
  have e3 : frD n 1 = 1 := by rw [frD, e1]; rfl
  refine zmet (cc := cX5_init_2) [_, _, _] (by decide) (Nat.le_of_ble_eq_true rfl) rfl rfl ?_
  intro X hl hX hinit; subst hl
  have hX : zOK X _ cX5_init_2 RX5 none 3 := hX
  refine z_aload_n hX rfl (by first | rfl | exact va_rf_r _) dX5_init_2_0 ?_
  refine z_lload_n hX rfl dX5_init_2_1 ?_
  refine z_lconst hX (z := 1) (by decide) dX5_init_2_2 ?_
  refine z_callv (z_runI hX (x_frI _ _ ha hn (by unfold lB; omega) (by omega)) (cwI 2 hX.ts (lw_meth q677) rfl rfl rfl (hX.t q84) (hX.t q881) (hX.t q676) rfl (by decide +kernel) (zroom (by decide) (by decide))) dX5_init_2_3 rfl rfl rfl (by first | exact Nat.le_of_ble_eq_true rfl | simp [va_rf_c, Value.category]) (zhf (by omega) (by omega))) (fun μ_3 h_3 => ?_)
  obtain rfl := h_3; rw [e2, e3]
  (try rw [← hQ])
  refine z_return hX dX5_init_2_6 (by omega) (by omega) ?_
  rfl
theorem x_frT (l : Launch) (E : zE) {μ : zM} {a : Nat} {n d : Int} (ha : μ a = some (zfr n d)) {p q : Int} (h1 : lB (n * p)) (h2 : lB (d * q)) (h0 : d * q ≠ 0) : Met l yX5_times (ws_ yX5_times cX5_times 5 (some (.object "RatioGraph$Fraction"))) (zR 3 1 2) (va_Pc [.ref a, .long (zJ p), .long (zJ q)] (zPre E μ)) (zQq E (fun r μ' => ∃ b, μ b = none ∧ zu μ b (zfr (frN (n * p) (d * q)) (frD (n * p) (d * q))) = μ' ∧ some b = r)) 1 2 (zA E) := by
  refine zmet (cc := cX5_times) [_, _, _, _, _] (by decide) (Nat.le_of_ble_eq_true rfl) rfl rfl ?_
  intro X hl hX hinit; subst hl
  have hX : zOK X _ cX5_times RX5 (some (.object "RatioGraph$Fraction")) 5 := hX
  generalize hQ : MQ _ _ _ _ _ _ _ = Q
  refine z_new hX (C := RX5) (T := TX5) (N := 2) (ci := 5) rfl in_X5 tyX5 tyX5_ok q886 q674 q84 dX5_times_0 (fs := [.long (zJ 0), .long (zJ 0)]) (by decide) (by omega) (by omega) (fun q_0 f_0 => ?_)
  have hne := zne ha f_0
  refine z_dup hX (by first | rfl | exact va_rf_c _) dX5_times_3 ?_
  refine z_aload_n hX rfl (by first | rfl | exact va_rf_r _) dX5_times_4 ?_
  refine z_get hX (C := RX5) (T := TX5) (N := 2) (ci := 5) rfl in_X5 0 (by decide) q686 (Or.inl rfl) dX5_times_5 (by first | assumption | exact zu_s _ _ _ | exact zu_o (by assumption) (by assumption) | exact zu_o (by assumption) (zu_o (by assumption) (by assumption))) rfl ?_
  refine z_lload_n hX rfl dX5_times_8 ?_
  refine z_lmul hX dX5_times_9 ?_
  refine z_aload_n hX rfl (by first | rfl | exact va_rf_r _) dX5_times_10 ?_
  refine z_get hX (C := RX5) (T := TX5) (N := 2) (ci := 5) rfl in_X5 1 (by decide) q693 (Or.inl rfl) dX5_times_11 (by first | assumption | exact zu_s _ _ _ | exact zu_o (by assumption) (by assumption) | exact zu_o (by assumption) (zu_o (by assumption) (by assumption))) rfl ?_
  refine z_lload_n hX rfl dX5_times_14 ?_
  refine z_lmul hX dX5_times_15 ?_
  refine z_callv (z_runI hX (x_frI _ _ (zu_s _ _ _) h1 h2 h0) (cwI 2 hX.ts (lw_meth q677) rfl rfl rfl (hX.t q84) (hX.t q881) (hX.t q676) rfl (by decide +kernel) (zroom (by decide) (by decide))) dX5_times_16 rfl rfl rfl (by first | exact Nat.le_of_ble_eq_true rfl | simp [va_rf_c, Value.category]) (zhf (by omega) (by omega))) (fun μ_16 h_16 => ?_)
  obtain rfl := h_16; rw [zu_zu]
  (try rw [← hQ])
  first | refine z_areturn hX (r := some _) rfl (by first | exact Or.inl ⟨_, rfl⟩ | exact Or.inr ⟨_, rfl⟩) dX5_times_19 (by omega) (by omega) ?_ | refine z_areturn hX (r := none) rfl (by first | exact Or.inl ⟨_, rfl⟩ | exact Or.inr ⟨_, rfl⟩) dX5_times_19 (by omega) (by omega) ?_ | refine z_areturn hX rfl (by first | exact Or.inl ⟨_, rfl⟩ | exact Or.inr ⟨_, rfl⟩) dX5_times_19 (by omega) (by omega) ?_
  exact ⟨q_0, f_0, rfl, rfl⟩
theorem x_frC (l : Launch) (E : zE) {μ : zM} {a b : Nat} {n d p q : Int} (ha : μ a = some (zfr n d)) (hb : μ b = some (zfr p q)) (hn : lB n) (hd : 0 < d ∧ d ≤ 1000000000000000000) (hp : lB p) (hq : 0 < q ∧ q ≤ 1000000000000000000) : Met l yX5_compareTo (ws_ yX5_compareTo cX5_compareTo 19 (some .int)) (zR 1 0 0) (va_Pc [.ref a, .ref b] (zPre E μ)) (zQi E (fun r μ' => μ = μ' ∧ gsg (n * q - p * d) = r)) 0 0 (zA E) := by
  refine zmet (cc := cX5_compareTo) [_, _, _, _, _, _, _, _, _, _, _, _, _, _, _, _, _, _, _] (by decide) (Nat.le_of_ble_eq_true rfl) rfl rfl ?_
  intro X hl hX hinit; subst hl
  have hX : zOK X _ cX5_compareTo RX5 (some .int) 19 := hX
  generalize hQ : MQ _ _ _ _ _ _ _ = Q
  have loop : ∀ (k : Nat) (x y z w sg : Int), lB x → (0 < y ∧ y ≤ 1000000000000000000) → lB z → (0 < w ∧ w ≤ 1000000000000000000) → y < k → (sg = 1 ∨ sg = -1) → sg * gsg (x * w - z * y) = gsg (n * q - p * d) → ∀ y1 y2 y3 y4, zW X (zR 1 0 0) E (μ) 0 0 Q 26 [some (.ref a), some (.ref b), some (.long (zJ x)), none, some (.long (zJ y)), none, some (.long (zJ z)), none, some (.long (zJ w)), none, some (.int (zI sg)), y1, none, y2, none, y3, none, y4, none] [] := by
    intro k
    induction k with
    | zero => intros; exfalso; omega
    | succ k ih =>
      intro x y z w sg hx hy hz hw hk hs he y1 y2 y3 y4
      refine zW.mask [true, true, true, true, true, true, true, true, true, true, true, false, false, false, false, false, false, false, false] (lv' := [_, _, _, _, _, _, _, _, _, _, _, none, none, none, none, none, none, none, none]) rfl ?_
      have hx' := hx
      have hz' := hz
      unfold lB at hx' hz'
      have f1 := fl_rest (p := x) hy.1
      have f2 := fl_rest (p := z) hw.1
      have m1 : (x / y) * y = x - (x - (x / y) * y) := by omega
      have b1 : -1000000000000000000 ≤ x / y ∧ x / y ≤ 1000000000000000000 := by
        have q1 := Int.le_ediv_iff_mul_le (a := -1000000000000000000) (b := x) hy.1
        have q2 := Int.ediv_lt_iff_lt_mul (a := x) (b := 1000000000000000001) hy.1
        have t1 : (-1000000000000000000 : Int) * y ≤ -1000000000000000000 * 1 := by omega
        have q3 := q1.mpr (by omega)
        have q4 := q2.mpr (by omega)
        omega
      have b2 : -1000000000000000000 ≤ z / w ∧ z / w ≤ 1000000000000000000 := by
        have q1 := Int.le_ediv_iff_mul_le (a := -1000000000000000000) (b := z) hw.1
        have q2 := Int.ediv_lt_iff_lt_mul (a := z) (b := 1000000000000000001) hw.1
        have q3 := q1.mpr (by omega)
        have q4 := q2.mpr (by omega)
        omega
      refine z_lload_n hX rfl dX5_compareTo_26 ?_
      refine z_lload hX rfl dX5_compareTo_27 ?_
      refine z_calll (z_runS hX (x_floorDiv _ _ _ hx hy) (va_cwS 2 hX.ts (lw_S q709 q710 q75 q711) rfl rfl rfl (by decide +kernel) (zroom (by decide) (by decide))) dX5_compareTo_29 rfl rfl rfl (by first | exact Nat.le_of_ble_eq_true rfl | simp [va_rf_c, Value.category]) (zhf (by omega) (by omega))) (fun r_29 μ_29 h_29 => ?_)
      obtain ⟨rfl, rfl⟩ := h_29
      refine z_lstore hX (lv' := [_, _, _, _, _, _, _, _, _, _, _, _, _, _, _, _, _, _, _]) (Nat.le_of_ble_eq_true rfl) (by first | exact zpre_0 | exact zpre_n rfl | exact zpre_1 rfl rfl | exact zpre_1 rfl (va_rf_c _)) rfl rfl dX5_compareTo_32 ?_
      refine z_lload hX rfl dX5_compareTo_34 ?_
      refine z_lload hX rfl dX5_compareTo_36 ?_
      refine z_calll (z_runS hX (x_floorDiv _ _ _ hz hw) (va_cwS 2 hX.ts (lw_S q709 q710 q75 q711) rfl rfl rfl (by decide +kernel) (zroom (by decide) (by decide))) dX5_compareTo_38 rfl rfl rfl (by first | exact Nat.le_of_ble_eq_true rfl | simp [va_rf_c, Value.category]) (zhf (by omega) (by omega))) (fun r_38 μ_38 h_38 => ?_)
      obtain ⟨rfl, rfl⟩ := h_38
      refine z_lstore hX (lv' := [_, _, _, _, _, _, _, _, _, _, _, _, _, _, _, _, _, _, _]) (Nat.le_of_ble_eq_true rfl) (by first | exact zpre_0 | exact zpre_n rfl | exact zpre_1 rfl rfl | exact zpre_1 rfl (va_rf_c _)) rfl rfl dX5_compareTo_41 ?_
      generalize hr1 : x - x / y * y = r1 at f1
      generalize hr2 : z - z / w * w = r2 at f2
      refine z_lload_n hX rfl dX5_compareTo_43 ?_
      refine z_lload hX rfl dX5_compareTo_44 ?_
      refine z_lload hX rfl dX5_compareTo_46 ?_
      refine z_lmul hX dX5_compareTo_48 ?_
      refine z_lsub hX dX5_compareTo_49 ?_
      refine z_lstore hX (lv' := [_, _, _, _, _, _, _, _, _, _, _, _, _, _, _, _, _, _, _]) (Nat.le_of_ble_eq_true rfl) (by first | exact zpre_0 | exact zpre_n rfl | exact zpre_1 rfl rfl | exact zpre_1 rfl (va_rf_c _)) rfl rfl dX5_compareTo_50 ?_
      rw [hr1]
      refine z_lload hX rfl dX5_compareTo_52 ?_
      refine z_lload hX rfl dX5_compareTo_54 ?_
      refine z_lload hX rfl dX5_compareTo_56 ?_
      refine z_lmul hX dX5_compareTo_58 ?_
      refine z_lsub hX dX5_compareTo_59 ?_
      refine z_lstore hX (lv' := [_, _, _, _, _, _, _, _, _, _, _, _, _, _, _, _, _, _, _]) (Nat.le_of_ble_eq_true rfl) (by first | exact zpre_0 | exact zpre_n rfl | exact zpre_1 rfl rfl | exact zpre_1 rfl (va_rf_c _)) rfl rfl dX5_compareTo_60 ?_
      rw [hr2]
      refine z_lload hX rfl dX5_compareTo_62 ?_
      refine z_lload hX rfl dX5_compareTo_64 ?_
      refine z_lcmp_eq hX (by omega) (by omega) dX5_compareTo_66 dX5_compareTo_67 (tgt := 87) rfl (fun h_66 => ?_) (fun h_66 => ?_)
      · have e1 := cmp_eq (p := x) (q := y) (r := z) (s := w) h_66
        rw [hr1, hr2] at e1
        rw [e1] at he
        have zero : r1 = 0 ∨ r2 = 0 → zW X (zR 1 0 0) E (μ) 0 0 Q 101 [some (.ref a), some (.ref b), some (.long (zJ x)), none, some (.long (zJ y)), none, some (.long (zJ z)), none, some (.long (zJ w)), none, some (.int (zI sg)), some (.long (zJ (x / y))), none, some (.long (zJ (z / w))), none, some (.long (zJ r1)), none, some (.long (zJ r2)), none] [] := by
          intro hz0
          refine z_lload hX rfl dX5_compareTo_101 ?_
          refine z_lload hX rfl dX5_compareTo_103 ?_
          refine z_lcmp_ne hX (by omega) (by omega) dX5_compareTo_105 dX5_compareTo_106 (tgt := 113) rfl (fun h_105 => ?_) (fun h_105 => ?_)
          · refine z_lload hX rfl dX5_compareTo_113 ?_
            refine z_lconst hX (z := 0) (by decide) dX5_compareTo_115 ?_
            refine z_lcmp_ne hX (by omega) (by omega) dX5_compareTo_116 dX5_compareTo_117 (tgt := 126) rfl (fun h_116 => ?_) (fun h_116 => ?_)
            · obtain rfl : r2 = 0 := by omega
              rw [Int.zero_mul, Int.sub_zero, gsg_gt (Int.mul_pos (by omega) hw.1)] at he
              refine z_iload hX rfl dX5_compareTo_126 ?_
              (try rw [← hQ])
              refine z_ireturn hX dX5_compareTo_128 (by omega) (by omega) ?_
              exact ⟨rfl, by omega⟩
            · obtain rfl : r1 = 0 := by omega
              have hm := Int.mul_pos (a := r2) (b := y) (by omega) hy.1
              rw [Int.zero_mul, gsg_lt (by omega)] at he
              refine z_iload hX rfl dX5_compareTo_120 ?_
              refine z_ineg hX dX5_compareTo_122 ?_
              refine z_goto hX (tgt := 128) dX5_compareTo_123 rfl ?_
              (try rw [← hQ])
              refine z_ireturn hX dX5_compareTo_128 (by omega) (by omega) ?_
              exact ⟨rfl, by omega⟩
          · obtain rfl : r1 = 0 := by omega
            obtain rfl : r2 = 0 := by omega
            rw [Int.zero_mul, Int.zero_mul, Int.sub_self, gsg_0] at he
            refine z_iconst hX dX5_compareTo_109 ?_
            refine z_goto hX (tgt := 128) dX5_compareTo_110 rfl ?_
            (try rw [← hQ])
            refine z_ireturn hX dX5_compareTo_128 (by omega) (by omega) ?_
            exact ⟨rfl, by omega⟩
        refine z_lload hX rfl dX5_compareTo_87 ?_
        refine z_lconst hX (z := 0) (by decide) dX5_compareTo_89 ?_
        refine z_lcmp_eq hX (by omega) (by omega) dX5_compareTo_90 dX5_compareTo_91 (tgt := 101) rfl (fun h_90 => ?_) (fun h_90 => ?_)
        · exact zero (Or.inl h_90)
        · refine z_lload hX rfl dX5_compareTo_94 ?_
          refine z_lconst hX (z := 0) (by decide) dX5_compareTo_96 ?_
          refine z_lcmp_ne hX (by omega) (by omega) dX5_compareTo_97 dX5_compareTo_98 (tgt := 129) rfl (fun h_97 => ?_) (fun h_97 => ?_)
          · refine z_lload hX rfl dX5_compareTo_129 ?_
            refine z_lstore_n hX (lv' := [_, _, _, _, _, _, _, _, _, _, _, _, _, _, _, _, _, _, _]) (Nat.le_of_ble_eq_true rfl) (by first | exact zpre_0 | exact zpre_n rfl | exact zpre_1 rfl rfl | exact zpre_1 rfl (va_rf_c _)) rfl rfl dX5_compareTo_131 ?_
            refine z_lload hX rfl dX5_compareTo_132 ?_
            refine z_lstore hX (lv' := [_, _, _, _, _, _, _, _, _, _, _, _, _, _, _, _, _, _, _]) (Nat.le_of_ble_eq_true rfl) (by first | exact zpre_0 | exact zpre_n rfl | exact zpre_1 rfl rfl | exact zpre_1 rfl (va_rf_c _)) rfl rfl dX5_compareTo_134 ?_
            refine z_lload hX rfl dX5_compareTo_136 ?_
            refine z_lstore hX (lv' := [_, _, _, _, _, _, _, _, _, _, _, _, _, _, _, _, _, _, _]) (Nat.le_of_ble_eq_true rfl) (by first | exact zpre_0 | exact zpre_n rfl | exact zpre_1 rfl rfl | exact zpre_1 rfl (va_rf_c _)) rfl rfl dX5_compareTo_138 ?_
            refine z_lload hX rfl dX5_compareTo_140 ?_
            refine z_lstore hX (lv' := [_, _, _, _, _, _, _, _, _, _, _, _, _, _, _, _, _, _, _]) (Nat.le_of_ble_eq_true rfl) (by first | exact zpre_0 | exact zpre_n rfl | exact zpre_1 rfl rfl | exact zpre_1 rfl (va_rf_c _)) rfl rfl dX5_compareTo_142 ?_
            refine z_iload hX rfl dX5_compareTo_144 ?_
            refine z_ineg hX dX5_compareTo_146 ?_
            refine z_istore hX (lv' := [_, _, _, _, _, _, _, _, _, _, _, _, _, _, _, _, _, _, _]) (Nat.le_of_ble_eq_true rfl) (by first | exact zpre_0 | exact zpre_n rfl | exact zpre_1 rfl rfl | exact zpre_1 rfl (va_rf_c _)) rfl dX5_compareTo_147 ?_
            refine z_goto hX (tgt := 26) dX5_compareTo_149 rfl ?_
            refine ih y r1 w r2 (-sg) (by unfold lB; omega) (by omega) (by unfold lB; omega) (by omega) (by omega) (by omega) ?_ _ _ _ _
            rw [← he, show y * r2 - w * r1 = -(r1 * w - r2 * y) by rw [Int.mul_comm y r2, Int.mul_comm w r1]; omega, gsg_neg, Int.neg_mul_neg]
          · exact zero (Or.inr (by omega))
      · have e1 := cmp_ne (p := x) (r := z) hy.1 hw.1 h_66
        rw [e1] at he
        refine z_lload hX rfl dX5_compareTo_70 ?_
        refine z_lload hX rfl dX5_compareTo_72 ?_
        refine z_lcmp_ge hX (by omega) (by omega) dX5_compareTo_74 dX5_compareTo_75 (tgt := 84) rfl (fun h_74 => ?_) (fun h_74 => ?_)
        · rw [if_neg (by omega)] at he
          refine z_iload hX rfl dX5_compareTo_84 ?_
          (try rw [← hQ])
          refine z_ireturn hX dX5_compareTo_86 (by omega) (by omega) ?_
          exact ⟨rfl, by omega⟩
        · rw [if_pos (by omega)] at he
          refine z_iload hX rfl dX5_compareTo_78 ?_
          refine z_ineg hX dX5_compareTo_80 ?_
          refine z_goto hX (tgt := 86) dX5_compareTo_81 rfl ?_
          (try rw [← hQ])
          refine z_ireturn hX dX5_compareTo_86 (by omega) (by omega) ?_
          exact ⟨rfl, by omega⟩
  refine z_aload_n hX rfl (by first | rfl | exact va_rf_r _) dX5_compareTo_0 ?_
  refine z_get hX (C := RX5) (T := TX5) (N := 2) (ci := 5) rfl in_X5 0 (by decide) q686 (Or.inl rfl) dX5_compareTo_1 (by first | assumption | exact zu_s _ _ _ | exact zu_o (by assumption) (by assumption) | exact zu_o (by assumption) (zu_o (by assumption) (by assumption))) rfl ?_
  refine z_lstore_n hX (lv' := [_, _, _, _, _, _, _, _, _, _, _, _, _, _, _, _, _, _, _]) (Nat.le_of_ble_eq_true rfl) (by first | exact zpre_0 | exact zpre_n rfl | exact zpre_1 rfl rfl | exact zpre_1 rfl (va_rf_c _)) rfl rfl dX5_compareTo_4 ?_
  refine z_aload_n hX rfl (by first | rfl | exact va_rf_r _) dX5_compareTo_5 ?_
  refine z_get hX (C := RX5) (T := TX5) (N := 2) (ci := 5) rfl in_X5 1 (by decide) q693 (Or.inl rfl) dX5_compareTo_6 (by first | assumption | exact zu_s _ _ _ | exact zu_o (by assumption) (by assumption) | exact zu_o (by assumption) (zu_o (by assumption) (by assumption))) rfl ?_
  refine z_lstore hX (lv' := [_, _, _, _, _, _, _, _, _, _, _, _, _, _, _, _, _, _, _]) (Nat.le_of_ble_eq_true rfl) (by first | exact zpre_0 | exact zpre_n rfl | exact zpre_1 rfl rfl | exact zpre_1 rfl (va_rf_c _)) rfl rfl dX5_compareTo_9 ?_
  refine z_aload_n hX rfl (by first | rfl | exact va_rf_r _) dX5_compareTo_11 ?_
  refine z_get hX (C := RX5) (T := TX5) (N := 2) (ci := 5) rfl in_X5 0 (by decide) q686 (Or.inl rfl) dX5_compareTo_12 (by first | assumption | exact zu_s _ _ _ | exact zu_o (by assumption) (by assumption) | exact zu_o (by assumption) (zu_o (by assumption) (by assumption))) rfl ?_
  refine z_lstore hX (lv' := [_, _, _, _, _, _, _, _, _, _, _, _, _, _, _, _, _, _, _]) (Nat.le_of_ble_eq_true rfl) (by first | exact zpre_0 | exact zpre_n rfl | exact zpre_1 rfl rfl | exact zpre_1 rfl (va_rf_c _)) rfl rfl dX5_compareTo_15 ?_
  refine z_aload_n hX rfl (by first | rfl | exact va_rf_r _) dX5_compareTo_17 ?_
  refine z_get hX (C := RX5) (T := TX5) (N := 2) (ci := 5) rfl in_X5 1 (by decide) q693 (Or.inl rfl) dX5_compareTo_18 (by first | assumption | exact zu_s _ _ _ | exact zu_o (by assumption) (by assumption) | exact zu_o (by assumption) (zu_o (by assumption) (by assumption))) rfl ?_
  refine z_lstore hX (lv' := [_, _, _, _, _, _, _, _, _, _, _, _, _, _, _, _, _, _, _]) (Nat.le_of_ble_eq_true rfl) (by first | exact zpre_0 | exact zpre_n rfl | exact zpre_1 rfl rfl | exact zpre_1 rfl (va_rf_c _)) rfl rfl dX5_compareTo_21 ?_
  refine z_iconst hX dX5_compareTo_23 ?_
  refine z_istore hX (lv' := [_, _, _, _, _, _, _, _, _, _, _, _, _, _, _, _, _, _, _]) (Nat.le_of_ble_eq_true rfl) (by first | exact zpre_0 | exact zpre_n rfl | exact zpre_1 rfl rfl | exact zpre_1 rfl (va_rf_c _)) rfl dX5_compareTo_24 ?_
  exact loop (d.toNat + 1) n d p q 1 hn hd hp hq (by omega) (Or.inl rfl) (by omega) _ _ _ _
