/-! X SIDE 26: mean potentials, least cycles -/
set_option maxRecDepth 100000
theorem csF_b {a : Int → Int} (hg : gV a) {n d : Int} {bt : Bool} (hn : -2000 ≤ n ∧ n ≤ 2000) (hd : 0 < d ∧ d ≤ 72) : ∀ e, 0 ≤ e → e < a 112 → -100000 ≤ csF a n d bt e ∧ csF a n d bt e ≤ 100000 := fun e h0 h1 => by
  have he := hg.2 e h0 h1
  unfold eV at he
  have b1 := mul_r (q := d) (w := a (7 * e + 2)) (M := 72) (N := 99) (by omega) (by omega)
  unfold csF
  cases bt with
  | true =>
    have b2 := mul_r (q := n) (w := a (7 * e + 4)) (M := 2000) (N := 9) (by omega) (by omega)
    rw [if_pos rfl]
    omega
  | false =>
    rw [if_neg (by decide)]
    omega
theorem rxN_b {a c : Int → Int} {C : Int} (hg : gV a) (hC : 0 ≤ C) (hc : ∀ e, 0 ≤ e → e < a 112 → -C ≤ c e ∧ c e ≤ C) : ∀ (k : Nat) {f : Int → Int} {M : Int}, bd8 f M → bd8 (rxN a c k f).1 (M + 16 * C * k)
  | 0, f, M, h => by simpa [rxN] using h
  | k + 1, f, M, h => by
    have h1 := rxR_b hg hC hc h
    have e1 : 16 * C * ((k + 1 : Nat) : Int) = 16 * C * (k : Int) + 16 * C := by rw [Int.natCast_add, Int.mul_add]; omega
    have e2 : 0 ≤ 16 * C * (k : Int) := Int.mul_nonneg (by omega) (by omega)
    rw [rxN]
    split
    · have h2 := rxN_b hg hC hc k h1
      rw [e1]
      intro v v0 v7
      have := h2 v v0 v7
      omega
    · rw [e1]
      intro v v0 v7
      have := h1 v v0 v7
      dsimp only
      omega
theorem FM.r {μ : zM} {ac : Option Nat} {u : Int × Int} (h : FM μ ac (some u)) : ∃ fr, ac = some fr ∧ μ fr = some (zfr (frN u.1 u.2) (frD u.1 u.2)) ∧ (-2000 ≤ frN u.1 u.2 ∧ frN u.1 u.2 ≤ 2000) ∧ 0 < frD u.1 u.2 ∧ frD u.1 u.2 ≤ 72 := by
  obtain ⟨fr, h1, h2, h3, h4⟩ := h
  have := frD_le (n := u.1) (d := u.2) (by omega)
  exact ⟨fr, h1, h2, frN_le (by omega) (by omega) h3, frD_pos (by omega), by omega⟩
theorem FO.r {μ : zM} {ac : Option Nat} {u : Int × Int} (h : FO μ ac (some u)) : ∃ fr, ac = some fr ∧ μ fr = some (zfr (frN u.1 u.2) (frD u.1 u.2)) ∧ (-2000 ≤ frN u.1 u.2 ∧ frN u.1 u.2 ≤ 2000) ∧ 0 < frD u.1 u.2 ∧ frD u.1 u.2 ≤ 72 := by
  obtain ⟨fr, h1, h2, h3, h4⟩ := h
  have := frD_le (n := u.1) (d := u.2) (by omega)
  exact ⟨fr, h1, h2, frN_le (by omega) (by omega) ⟨by omega, by omega⟩, frD_pos (by omega), by omega⟩
/-- the settled potentials of the least mean -/
def xpG (a : Int → Int) : Option (Int × Int × (Int → Int)) := match kmG a with
  | none => none
  | some u => if (rxN a (csF a (frN u.1 u.2) (frD u.1 u.2) false) 9 (fun _ => 0)).2 = true then some (frN u.1 u.2, frD u.1 u.2, (rxN a (csF a (frN u.1 u.2) (frD u.1 u.2) false) 9 (fun _ => 0)).1) else none
/-- what meanPotentials answers -/
def mpP (E : zE) (μ' : zM) (x : Nat) (a : Int → Int) (r : Option Nat) : Option (Int × Int × (Int → Int)) → Prop
  | none => r = none
  | some u => (∃ w su va, r = some w ∧ PO E μ' x a w su va u.1 u.2.1 false u.2.2) ∧ (-2000 ≤ u.1 ∧ u.1 ≤ 2000) ∧ (0 < u.2.1 ∧ u.2.1 ≤ 72) ∧ bd8 u.2.2 100000000
theorem bd8_0 : bd8 (fun _ => 0) 0 := fun v _ _ => ⟨Int.le_refl _, Int.le_refl _⟩
theorem PO.mono {E : zE} {μ μ' : zM} {x : Nat} {a : Int → Int} {w su va : Nat} {n d : Int} {bt : Bool} {f : Int → Int} (h : PO E μ x a w su va n d bt f) (k : zKp μ μ') : PO E μ' x a w su va n d bt f := ⟨k _ _ h.1, k _ _ h.2.1, k _ _ h.2.2.1, h.2.2.2.kp k⟩
theorem zKx.kp1 {w : Nat} {μ μ' : zM} {e0 : va_E} (k : zKx [w] (zu μ w e0) μ') (hw : μ w = none) : zKp μ μ' := fun q e hq => k q e (zKp.new hw e0 _ _ hq) (by simpa using zne hq hw)
theorem x_meanPot (l : Launch) (E : zE) {μ : zM} {x : Nat} {a : Int → Int} (hG : xG E μ x a) (hg : gV a) : Met l yX0_meanPotentials (ws_ yX0_meanPotentials cX0_meanPotentials 3 (some (.object "RatioGraph$Potentials"))) (zR 5 76 221) (va_Pc [.ref x] (zPre E μ)) (zQq E (fun r μ' => mpP E μ' x a r (xpG a) ∧ zKp μ μ')) 76 221 (zA E) := by
  have hG0 := hG
  obtain ⟨L, arr, c, rs, h', mk, tx, tl, fo, pc, hs, hx, hE⟩ := hG0
  refine zmet (cc := cX0_meanPotentials) [_, _, _] (by decide) (Nat.le_of_ble_eq_true rfl) rfl rfl ?_
  intro X hl hX hinit; subst hl
  have hX : zOK X _ cX0_meanPotentials RX0 (some (.object "RatioGraph$Potentials")) 3 := hX
  generalize hQ : MQ _ _ _ _ _ _ _ = Q
  refine z_aload_n hX rfl (by first | rfl | exact va_rf_r _) dX0_meanPotentials_0 ?_
  refine z_callq (z_runV hX (x_leastMean _ _ hG hg) (cwV 0 hX.ts (lw_V q660 q662 qs20 q65 q663) rfl rfl rfl (by decide +kernel) (zroom (by decide) (by decide))) dX0_meanPotentials_1 (by first | assumption | exact zu_s _ _ _ | exact zu_o (by assumption) (by assumption) | exact zu_o (by assumption) (zu_o (by assumption) (by assumption)) | exact (zu_o (by first | assumption | exact Ne.symm (by assumption)) (zu_s _ _ _)) | exact (zu_o (by first | assumption | exact Ne.symm (by assumption)) (by assumption)) | exact (zu_o (by first | assumption | exact Ne.symm (by assumption)) (zu_o (by first | assumption | exact Ne.symm (by assumption)) (zu_s _ _ _))) | exact (zu_o (by first | assumption | exact Ne.symm (by assumption)) (zu_o (by first | assumption | exact Ne.symm (by assumption)) (by assumption))) | exact (zu_o (by first | assumption | exact Ne.symm (by assumption)) (zu_o (by first | assumption | exact Ne.symm (by assumption)) (zu_o (by first | assumption | exact Ne.symm (by assumption)) (zu_s _ _ _)))) | exact (zu_o (by first | assumption | exact Ne.symm (by assumption)) (zu_o (by first | assumption | exact Ne.symm (by assumption)) (zu_o (by first | assumption | exact Ne.symm (by assumption)) (by assumption)))) | exact (zu_o (by first | assumption | exact Ne.symm (by assumption)) (zu_o (by first | assumption | exact Ne.symm (by assumption)) (zu_o (by first | assumption | exact Ne.symm (by assumption)) (zu_o (by first | assumption | exact Ne.symm (by assumption)) (zu_s _ _ _))))) | exact (zu_o (by first | assumption | exact Ne.symm (by assumption)) (zu_o (by first | assumption | exact Ne.symm (by assumption)) (zu_o (by first | assumption | exact Ne.symm (by assumption)) (zu_o (by first | assumption | exact Ne.symm (by assumption)) (by assumption))))) | exact AL.at (by assumption) | exact EL.at (by assumption) | exact LL.at (by assumption)) (ci := 0) rfl rfl rfl rfl (by first | exact Nat.le_of_ble_eq_true rfl | simp [va_rf_c, Value.category]) (zhf (by omega) (by omega))) (fun r_1 μ_1 h_1 => ?_)
  obtain ⟨hF, hk⟩ := h_1
  refine z_astore_n hX (lv' := [_, _, _]) (by first | rfl | exact va_rf_r _) (Nat.le_of_ble_eq_true rfl) (by first | exact zpre_0 | exact zpre_n rfl | exact zpre_1 rfl rfl | exact zpre_1 rfl (va_rf_c _)) rfl dX0_meanPotentials_4 ?_
  unfold xpG at hQ
  cases hu : kmG a with
  | none =>
    rw [hu] at hF hQ
    obtain rfl : r_1 = none := hF
    refine z_aload_n hX rfl (by first | rfl | exact va_rf_r _) dX0_meanPotentials_5 ?_
    refine z_ifnonnull_0 hX dX0_meanPotentials_6 ?_
    refine z_null hX dX0_meanPotentials_9 ?_
    (try rw [← hQ])
    first | refine z_areturn hX (r := some _) rfl (by first | exact Or.inl ⟨_, rfl⟩ | exact Or.inr ⟨_, rfl⟩) dX0_meanPotentials_10 (by omega) (by omega) ?_ | refine z_areturn hX (r := none) rfl (by first | exact Or.inl ⟨_, rfl⟩ | exact Or.inr ⟨_, rfl⟩) dX0_meanPotentials_10 (by omega) (by omega) ?_ | refine z_areturn hX rfl (by first | exact Or.inl ⟨_, rfl⟩ | exact Or.inr ⟨_, rfl⟩) dX0_meanPotentials_10 (by omega) (by omega) ?_
    exact ⟨rfl, hk⟩
  | some u =>
    rw [hu] at hF hQ
    obtain ⟨fr, rfl, hfr, b1, b2⟩ := hF.r
    simp only at hQ
    generalize frN u.1 u.2 = n at *
    generalize frD u.1 u.2 = d at *
    refine z_aload_n hX rfl (by first | rfl | exact va_rf_r _) dX0_meanPotentials_5 ?_
    refine z_ifnonnull_r hX dX0_meanPotentials_6 (tgt := 11) rfl ?_
    refine z_new hX (C := RX6) (T := TX6) (N := 4) (ci := 6) rfl in_X6 tyX6 tyX6_ok q712 q713 q85 dX0_meanPotentials_11 (fs := [.null, .null, .int (zI 0), .null]) (by decide) (by omega) (by omega) (fun q_11 f_11 => ?_)
    have hk0 := zKp.new f_11 (zob 6 [.null, .null, .int (zI 0), .null])
    have hG1 := (hG.kp hk).kp hk0
    refine z_dup hX (by first | rfl | exact va_rf_c _) dX0_meanPotentials_14 ?_
    refine z_aload_n hX rfl (by first | rfl | exact va_rf_r _) dX0_meanPotentials_15 ?_
    refine z_aload_n hX rfl (by first | rfl | exact va_rf_r _) dX0_meanPotentials_16 ?_
    refine z_iconst hX dX0_meanPotentials_17 ?_
    refine z_callv (z_runI hX (x_poI (bt := false) _ _ (zu_s _ _ _) (hk0 _ _ hfr) hG1) (cwI 3 hX.ts (lw_meth q716) rfl rfl rfl (hX.t q85) (hX.t q714) (hX.t q715) rfl (by decide +kernel) (zroom (by decide) (by decide))) dX0_meanPotentials_18 rfl rfl rfl (by first | exact Nat.le_of_ble_eq_true rfl | simp [va_rf_c, Value.category]) (zhf (by omega) (by omega))) (fun μ_18 h_18 => ?_)
    obtain ⟨su, hsu, hP, hk2⟩ := h_18
    refine z_astore_n hX (lv' := [_, _, _]) (by first | rfl | exact va_rf_r _) (Nat.le_of_ble_eq_true rfl) (by first | exact zpre_0 | exact zpre_n rfl | exact zpre_1 rfl rfl | exact zpre_1 rfl (va_rf_c _)) rfl dX0_meanPotentials_21 ?_
    have hk3 := hk.tr (hk2.kp1 f_11)
    have hp1 := hP.1
    have hcs := csF_b hg (bt := false) b1 b2
    have hk4 : zKp μ (zu μ_18 su (zaj E 8 (rxN a (csF a n d false) 9 (fun _ => 0)).1)) := hk3.nu ((hk.tr hk0).no hsu) _
    have hb := rxN_b hg (by omega) hcs 9 bd8_0
    refine z_aload_n hX rfl (by first | rfl | exact va_rf_r _) dX0_meanPotentials_22 ?_
    refine z_callb (z_runV hX (x_settle (C := 100000) _ _ hg hP (by omega) hcs bd8_0) (cwV 0 hX.ts (lw_V q733 q734 q735 q85 q736) rfl rfl rfl (by decide +kernel) (zroom (by decide) (by decide))) dX0_meanPotentials_23 (by first | assumption | exact zu_s _ _ _ | exact zu_o (by assumption) (by assumption) | exact zu_o (by assumption) (zu_o (by assumption) (by assumption)) | exact (zu_o (by first | assumption | exact Ne.symm (by assumption)) (zu_s _ _ _)) | exact (zu_o (by first | assumption | exact Ne.symm (by assumption)) (by assumption)) | exact (zu_o (by first | assumption | exact Ne.symm (by assumption)) (zu_o (by first | assumption | exact Ne.symm (by assumption)) (zu_s _ _ _))) | exact (zu_o (by first | assumption | exact Ne.symm (by assumption)) (zu_o (by first | assumption | exact Ne.symm (by assumption)) (by assumption))) | exact (zu_o (by first | assumption | exact Ne.symm (by assumption)) (zu_o (by first | assumption | exact Ne.symm (by assumption)) (zu_o (by first | assumption | exact Ne.symm (by assumption)) (zu_s _ _ _)))) | exact (zu_o (by first | assumption | exact Ne.symm (by assumption)) (zu_o (by first | assumption | exact Ne.symm (by assumption)) (zu_o (by first | assumption | exact Ne.symm (by assumption)) (by assumption)))) | exact (zu_o (by first | assumption | exact Ne.symm (by assumption)) (zu_o (by first | assumption | exact Ne.symm (by assumption)) (zu_o (by first | assumption | exact Ne.symm (by assumption)) (zu_o (by first | assumption | exact Ne.symm (by assumption)) (zu_s _ _ _))))) | exact (zu_o (by first | assumption | exact Ne.symm (by assumption)) (zu_o (by first | assumption | exact Ne.symm (by assumption)) (zu_o (by first | assumption | exact Ne.symm (by assumption)) (zu_o (by first | assumption | exact Ne.symm (by assumption)) (by assumption))))) | exact AL.at (by assumption) | exact EL.at (by assumption) | exact LL.at (by assumption)) (ci := 6) rfl rfl rfl rfl (by first | exact Nat.le_of_ble_eq_true rfl | simp [va_rf_c, Value.category]) (zhf (by omega) (by omega))) (fun r_23 μ_23 h_23 => ?_)
    obtain ⟨hr, rfl⟩ := h_23
    refine z_if_eq_b hX dX0_meanPotentials_26 (tgt := 33) rfl (fun h_26 => ?_) (fun h_26 => ?_)
    · have hr2 : (r_23 : Bool) = false := h_26
      rw [hr2] at hr
      rw [if_neg (by rw [hr]; decide)] at hQ
      refine z_null hX dX0_meanPotentials_33 ?_
      (try rw [← hQ])
      first | refine z_areturn hX (r := some _) rfl (by first | exact Or.inl ⟨_, rfl⟩ | exact Or.inr ⟨_, rfl⟩) dX0_meanPotentials_34 (by omega) (by omega) ?_ | refine z_areturn hX (r := none) rfl (by first | exact Or.inl ⟨_, rfl⟩ | exact Or.inr ⟨_, rfl⟩) dX0_meanPotentials_34 (by omega) (by omega) ?_ | refine z_areturn hX rfl (by first | exact Or.inl ⟨_, rfl⟩ | exact Or.inr ⟨_, rfl⟩) dX0_meanPotentials_34 (by omega) (by omega) ?_
      exact ⟨rfl, hk4⟩
    · have hr2 : (r_23 : Bool) = true := h_26
      rw [hr2] at hr
      rw [if_pos hr] at hQ
      refine z_aload_n hX rfl (by first | rfl | exact va_rf_r _) dX0_meanPotentials_29 ?_
      refine z_goto hX (tgt := 34) dX0_meanPotentials_30 rfl ?_
      (try rw [← hQ])
      first | refine z_areturn hX (r := some _) rfl (by first | exact Or.inl ⟨_, rfl⟩ | exact Or.inr ⟨_, rfl⟩) dX0_meanPotentials_34 (by omega) (by omega) ?_ | refine z_areturn hX (r := none) rfl (by first | exact Or.inl ⟨_, rfl⟩ | exact Or.inr ⟨_, rfl⟩) dX0_meanPotentials_34 (by omega) (by omega) ?_ | refine z_areturn hX rfl (by first | exact Or.inl ⟨_, rfl⟩ | exact Or.inr ⟨_, rfl⟩) dX0_meanPotentials_34 (by omega) (by omega) ?_
      exact ⟨⟨⟨_, _, _, rfl, hP.put _⟩, b1, b2, fun v v0 v7 => by have := hb v v0 v7; dsimp only; omega⟩, hk4⟩
/-- the least cycle of tight edges -/
def fcB (a : Int → Int) (B : Nat) (n d : Int) : bT := (List.foldl stp9 none (gCs a ((er 0 (a 112)).filter (fun e => B.testBit e.toNat)))).map (fun p => (n, d, p))
theorem FD9.k {E : zE} {μ0 μ : zM} {va sq : Nat} {r : Option Nat} {α : Option (List Int)} {n d : Int} (h : FD9 E μ0 μ va sq r α) (hva : μ va = some (zfr n d)) : FDk E μ0 μ r (α.map (fun p => (n, d, p))) := by
  cases α with
  | none => exact h
  | some b =>
    obtain ⟨f, ar, g, h1, h2, h3, h4, h5, h6, h7, h8⟩ := h
    exact ⟨f, ar, va, g, h1, h2, h3, h4, hva, h5, h6, h8⟩
theorem tgB {a c f : Int → Int} (hg : gV a) : tgL a c f 0 (er 0 (a 112)) < 2 ^ 31 := by
  have := tgL_lt (a := a) (c := c) (f := f) (er 0 (a 112)) 0 (fun e he => by have := er_mem.mp he; have := hg.1; omega) (by omega)
  omega
def tgS (a : Int → Int) (n d : Int) (bt : Bool) (F : Int → Int) : Nat := tgL a (csF a n d bt) F 0 (er 0 (a 112))
/-- the least-mean cycle as found -/
def mcB (a : Int → Int) : bT := match xpG a with
  | none => none
  | some u => fcB a (tgS a u.1 u.2.1 false u.2.2) u.1 u.2.1
theorem x_meanCycle (l : Launch) (E : zE) {μ : zM} {x L h mk tx : Nat} {tl : Int} {fo pc : Option Nat} {hs : Int} (hx : μ x = some (zx0 L h mk tx tl fo pc hs)) {a : Int → Int} (hG : xG E μ x a) (hg : gV a) : Met l yX0_meanCycle (ws_ yX0_meanCycle cX0_meanCycle 2 (some .int)) (zR 27 1520 7430) (va_Pc [.ref x] (zPre E μ)) (zQi E (kpP E μ x L h mk tx tl fo pc hs (mcB a))) 1520 7430 (zA E) := by
  have h16 := hg.1
  refine zmet (cc := cX0_meanCycle) [_, _] (by decide) (Nat.le_of_ble_eq_true rfl) rfl rfl ?_
  intro X hl hX hinit; subst hl
  have hX : zOK X _ cX0_meanCycle RX0 (some .int) 2 := hX
  generalize hQ : MQ _ _ _ _ _ _ _ = Q
  refine z_aload_n hX rfl (by first | rfl | exact va_rf_r _) dX0_meanCycle_0 ?_
  refine z_callq (z_runV hX (x_meanPot _ _ hG hg) (cwV 0 hX.ts (lw_V q656 q658 qs19 q65 q659) rfl rfl rfl (by decide +kernel) (zroom (by decide) (by decide))) dX0_meanCycle_1 (by first | assumption | exact zu_s _ _ _ | exact zu_o (by assumption) (by assumption) | exact zu_o (by assumption) (zu_o (by assumption) (by assumption)) | exact (zu_o (by first | assumption | exact Ne.symm (by assumption)) (zu_s _ _ _)) | exact (zu_o (by first | assumption | exact Ne.symm (by assumption)) (by assumption)) | exact (zu_o (by first | assumption | exact Ne.symm (by assumption)) (zu_o (by first | assumption | exact Ne.symm (by assumption)) (zu_s _ _ _))) | exact (zu_o (by first | assumption | exact Ne.symm (by assumption)) (zu_o (by first | assumption | exact Ne.symm (by assumption)) (by assumption))) | exact (zu_o (by first | assumption | exact Ne.symm (by assumption)) (zu_o (by first | assumption | exact Ne.symm (by assumption)) (zu_o (by first | assumption | exact Ne.symm (by assumption)) (zu_s _ _ _)))) | exact (zu_o (by first | assumption | exact Ne.symm (by assumption)) (zu_o (by first | assumption | exact Ne.symm (by assumption)) (zu_o (by first | assumption | exact Ne.symm (by assumption)) (by assumption)))) | exact (zu_o (by first | assumption | exact Ne.symm (by assumption)) (zu_o (by first | assumption | exact Ne.symm (by assumption)) (zu_o (by first | assumption | exact Ne.symm (by assumption)) (zu_o (by first | assumption | exact Ne.symm (by assumption)) (zu_s _ _ _))))) | exact (zu_o (by first | assumption | exact Ne.symm (by assumption)) (zu_o (by first | assumption | exact Ne.symm (by assumption)) (zu_o (by first | assumption | exact Ne.symm (by assumption)) (zu_o (by first | assumption | exact Ne.symm (by assumption)) (by assumption))))) | exact AL.at (by assumption) | exact EL.at (by assumption) | exact LL.at (by assumption)) (ci := 0) rfl rfl rfl rfl (by first | exact Nat.le_of_ble_eq_true rfl | simp [va_rf_c, Value.category]) (zhf (by omega) (by omega))) (fun r_1 μ_1 h_1 => ?_)
  obtain ⟨hF, hk⟩ := h_1
  refine z_astore_n hX (lv' := [_, _]) (by first | rfl | exact va_rf_r _) (Nat.le_of_ble_eq_true rfl) (by first | exact zpre_0 | exact zpre_n rfl | exact zpre_1 rfl rfl | exact zpre_1 rfl (va_rf_c _)) rfl dX0_meanCycle_4 ?_
  unfold mcB at hQ
  cases hu : xpG a with
  | none =>
    rw [hu] at hF hQ
    obtain rfl : r_1 = none := hF
    refine z_aload_n hX rfl (by first | rfl | exact va_rf_r _) dX0_meanCycle_5 ?_
    refine z_ifnonnull_0 hX dX0_meanCycle_6 ?_
    refine z_ldc hX (z := -1000001) q647 (by decide) dX0_meanCycle_9 ?_
    refine z_goto hX (tgt := 37) dX0_meanCycle_11 rfl ?_
    (try rw [← hQ])
    refine z_ireturn hX dX0_meanCycle_37 (by omega) (by omega) ?_
    exact ⟨rfl, hk.x _, fo, hk _ _ hx, fun _ => rfl, fun q => absurd rfl q⟩
  | some u =>
    rw [hu] at hF hQ
    simp only at hQ
    obtain ⟨⟨w, su, va, rfl, hP⟩, b1, b2, b3⟩ := hF
    generalize u.1 = n at *
    generalize u.2.1 = d at *
    generalize u.2.2 = F at *
    have hx1 := hk _ _ hx
    refine z_aload_n hX rfl (by first | rfl | exact va_rf_r _) dX0_meanCycle_5 ?_
    refine z_ifnonnull_r hX dX0_meanCycle_6 (tgt := 14) rfl ?_
    refine z_aload_n hX rfl (by first | rfl | exact va_rf_r _) dX0_meanCycle_14 ?_
    refine z_new hX (C := RX9) (T := TX9) (N := 10) (ci := 7) rfl in_X9 tyX9 tyX9_ok q749 q750 q88 dX0_meanCycle_15 (fs := [.int (zI 0), .null, .int (zI 0), .null, .int (zI 0), .int (zI 0), .null, .null, .null, .null]) (by decide) (by omega) (by omega) (fun q_15 f_15 => ?_)
    have hk0 := zKp.new f_15 (zob 7 [.int (zI 0), .null, .int (zI 0), .null, .int (zI 0), .int (zI 0), .null, .null, .null, .null])
    have hP1 := hP.mono hk0
    have hp1 := hP1.1
    have hcs := csF_b hg (bt := false) b1 b2
    refine z_dup hX (by first | rfl | exact va_rf_c _) dX0_meanCycle_18 ?_
    refine z_aload_n hX rfl (by first | rfl | exact va_rf_r _) dX0_meanCycle_19 ?_
    refine z_aload_n hX rfl (by first | rfl | exact va_rf_r _) dX0_meanCycle_20 ?_
    refine z_calli (z_runV hX (x_tightP (C := 100000) (M := 100000000) _ _ hg hP1 (by omega) (by omega) hcs b3) (cwV 0 hX.ts (lw_V q751 q752 q753 q85 q754) rfl rfl rfl (by decide +kernel) (zroom (by decide) (by decide))) dX0_meanCycle_21 (by first | assumption | exact zu_s _ _ _ | exact zu_o (by assumption) (by assumption) | exact zu_o (by assumption) (zu_o (by assumption) (by assumption)) | exact (zu_o (by first | assumption | exact Ne.symm (by assumption)) (zu_s _ _ _)) | exact (zu_o (by first | assumption | exact Ne.symm (by assumption)) (by assumption)) | exact (zu_o (by first | assumption | exact Ne.symm (by assumption)) (zu_o (by first | assumption | exact Ne.symm (by assumption)) (zu_s _ _ _))) | exact (zu_o (by first | assumption | exact Ne.symm (by assumption)) (zu_o (by first | assumption | exact Ne.symm (by assumption)) (by assumption))) | exact (zu_o (by first | assumption | exact Ne.symm (by assumption)) (zu_o (by first | assumption | exact Ne.symm (by assumption)) (zu_o (by first | assumption | exact Ne.symm (by assumption)) (zu_s _ _ _)))) | exact (zu_o (by first | assumption | exact Ne.symm (by assumption)) (zu_o (by first | assumption | exact Ne.symm (by assumption)) (zu_o (by first | assumption | exact Ne.symm (by assumption)) (by assumption)))) | exact (zu_o (by first | assumption | exact Ne.symm (by assumption)) (zu_o (by first | assumption | exact Ne.symm (by assumption)) (zu_o (by first | assumption | exact Ne.symm (by assumption)) (zu_o (by first | assumption | exact Ne.symm (by assumption)) (zu_s _ _ _))))) | exact (zu_o (by first | assumption | exact Ne.symm (by assumption)) (zu_o (by first | assumption | exact Ne.symm (by assumption)) (zu_o (by first | assumption | exact Ne.symm (by assumption)) (zu_o (by first | assumption | exact Ne.symm (by assumption)) (by assumption))))) | exact AL.at (by assumption) | exact EL.at (by assumption) | exact LL.at (by assumption)) (ci := 6) rfl rfl rfl rfl (by first | exact Nat.le_of_ble_eq_true rfl | simp [va_rf_c, Value.category]) (zhf (by omega) (by omega))) (fun r_21 μ_21 h_21 => ?_)
    obtain ⟨rfl, rfl⟩ := h_21
    refine z_aload_n hX rfl (by first | rfl | exact va_rf_r _) dX0_meanCycle_24 ?_
    refine z_getN hX (C := RX6) (T := TX6) (N := 4) (ci := 6) rfl in_X6 1 (by decide) q721 (Or.inl rfl) dX0_meanCycle_25 (by first | assumption | exact zu_s _ _ _ | exact zu_o (by assumption) (by assumption) | exact zu_o (by assumption) (zu_o (by assumption) (by assumption)) | exact (zu_o (by first | assumption | exact Ne.symm (by assumption)) (zu_s _ _ _)) | exact (zu_o (by first | assumption | exact Ne.symm (by assumption)) (by assumption)) | exact (zu_o (by first | assumption | exact Ne.symm (by assumption)) (zu_o (by first | assumption | exact Ne.symm (by assumption)) (zu_s _ _ _))) | exact (zu_o (by first | assumption | exact Ne.symm (by assumption)) (zu_o (by first | assumption | exact Ne.symm (by assumption)) (by assumption))) | exact (zu_o (by first | assumption | exact Ne.symm (by assumption)) (zu_o (by first | assumption | exact Ne.symm (by assumption)) (zu_o (by first | assumption | exact Ne.symm (by assumption)) (zu_s _ _ _)))) | exact (zu_o (by first | assumption | exact Ne.symm (by assumption)) (zu_o (by first | assumption | exact Ne.symm (by assumption)) (zu_o (by first | assumption | exact Ne.symm (by assumption)) (by assumption)))) | exact (zu_o (by first | assumption | exact Ne.symm (by assumption)) (zu_o (by first | assumption | exact Ne.symm (by assumption)) (zu_o (by first | assumption | exact Ne.symm (by assumption)) (zu_o (by first | assumption | exact Ne.symm (by assumption)) (zu_s _ _ _))))) | exact (zu_o (by first | assumption | exact Ne.symm (by assumption)) (zu_o (by first | assumption | exact Ne.symm (by assumption)) (zu_o (by first | assumption | exact Ne.symm (by assumption)) (zu_o (by first | assumption | exact Ne.symm (by assumption)) (by assumption))))) | exact AL.at (by assumption) | exact EL.at (by assumption) | exact LL.at (by assumption)) rfl ?_
    refine z_callv (z_runI hX (x_fc_init _ _ (zu_s _ _ _) hP1.2.2.2) (cwI 3 hX.ts (lw_meth q757) rfl rfl rfl (hX.t q88) (hX.t q755) (hX.t q756) rfl (by decide +kernel) (zroom (by decide) (by decide))) dX0_meanCycle_28 rfl rfl rfl (by first | exact Nat.le_of_ble_eq_true rfl | simp [va_rf_c, Value.category]) (zhf (by omega) (by omega))) (fun μ_28 h_28 => ?_)
    obtain ⟨sq, hsq, hW⟩ := h_28; have hW0 := hW; obtain ⟨ac, sn, f, hw, -⟩ := hW0
    refine z_callq (z_runV hX (x_fc_best _ _ hg (tgB hg) hW) (cwV 0 hX.ts (lw_V q796 q797 q798 q88 q799) rfl rfl rfl (by decide +kernel) (zroom (by decide) (by decide))) dX0_meanCycle_31 (by first | assumption | exact zu_s _ _ _ | exact zu_o (by assumption) (by assumption) | exact zu_o (by assumption) (zu_o (by assumption) (by assumption)) | exact (zu_o (by first | assumption | exact Ne.symm (by assumption)) (zu_s _ _ _)) | exact (zu_o (by first | assumption | exact Ne.symm (by assumption)) (by assumption)) | exact (zu_o (by first | assumption | exact Ne.symm (by assumption)) (zu_o (by first | assumption | exact Ne.symm (by assumption)) (zu_s _ _ _))) | exact (zu_o (by first | assumption | exact Ne.symm (by assumption)) (zu_o (by first | assumption | exact Ne.symm (by assumption)) (by assumption))) | exact (zu_o (by first | assumption | exact Ne.symm (by assumption)) (zu_o (by first | assumption | exact Ne.symm (by assumption)) (zu_o (by first | assumption | exact Ne.symm (by assumption)) (zu_s _ _ _)))) | exact (zu_o (by first | assumption | exact Ne.symm (by assumption)) (zu_o (by first | assumption | exact Ne.symm (by assumption)) (zu_o (by first | assumption | exact Ne.symm (by assumption)) (by assumption)))) | exact (zu_o (by first | assumption | exact Ne.symm (by assumption)) (zu_o (by first | assumption | exact Ne.symm (by assumption)) (zu_o (by first | assumption | exact Ne.symm (by assumption)) (zu_o (by first | assumption | exact Ne.symm (by assumption)) (zu_s _ _ _))))) | exact (zu_o (by first | assumption | exact Ne.symm (by assumption)) (zu_o (by first | assumption | exact Ne.symm (by assumption)) (zu_o (by first | assumption | exact Ne.symm (by assumption)) (zu_o (by first | assumption | exact Ne.symm (by assumption)) (by assumption))))) | exact AL.at (by assumption) | exact EL.at (by assumption) | exact LL.at (by assumption)) (ci := 7) rfl rfl rfl rfl (by first | exact Nat.le_of_ble_eq_true rfl | simp [va_rf_c, Value.category]) (zhf (by omega) (by omega))) (fun r_31 μ_31 h_31 => ?_)
    obtain ⟨hF, hk2⟩ := h_31; have hk3 := hk.tr (hk2.kp2 f_15 hsq); have hx3 := hk3 _ _ hx; have hva := (hk2.kp2 f_15 hsq) _ _ hP.2.1; have hF2 := (hF.k hva).base (hk.tr hk0)
    refine z_calli (z_runV hX (x_keep _ _ hx3 hx hk3 hF2) (cwV 1 hX.ts (lw_V q987 q989 qs22 q65 q990) rfl rfl rfl (by decide +kernel) (zroom (by decide) (by decide))) dX0_meanCycle_34 (by first | assumption | exact zu_s _ _ _ | exact zu_o (by assumption) (by assumption) | exact zu_o (by assumption) (zu_o (by assumption) (by assumption)) | exact (zu_o (by first | assumption | exact Ne.symm (by assumption)) (zu_s _ _ _)) | exact (zu_o (by first | assumption | exact Ne.symm (by assumption)) (by assumption)) | exact (zu_o (by first | assumption | exact Ne.symm (by assumption)) (zu_o (by first | assumption | exact Ne.symm (by assumption)) (zu_s _ _ _))) | exact (zu_o (by first | assumption | exact Ne.symm (by assumption)) (zu_o (by first | assumption | exact Ne.symm (by assumption)) (by assumption))) | exact (zu_o (by first | assumption | exact Ne.symm (by assumption)) (zu_o (by first | assumption | exact Ne.symm (by assumption)) (zu_o (by first | assumption | exact Ne.symm (by assumption)) (zu_s _ _ _)))) | exact (zu_o (by first | assumption | exact Ne.symm (by assumption)) (zu_o (by first | assumption | exact Ne.symm (by assumption)) (zu_o (by first | assumption | exact Ne.symm (by assumption)) (by assumption)))) | exact (zu_o (by first | assumption | exact Ne.symm (by assumption)) (zu_o (by first | assumption | exact Ne.symm (by assumption)) (zu_o (by first | assumption | exact Ne.symm (by assumption)) (zu_o (by first | assumption | exact Ne.symm (by assumption)) (zu_s _ _ _))))) | exact (zu_o (by first | assumption | exact Ne.symm (by assumption)) (zu_o (by first | assumption | exact Ne.symm (by assumption)) (zu_o (by first | assumption | exact Ne.symm (by assumption)) (zu_o (by first | assumption | exact Ne.symm (by assumption)) (by assumption))))) | exact AL.at (by assumption) | exact EL.at (by assumption) | exact LL.at (by assumption)) (ci := 0) rfl rfl rfl rfl (by first | exact Nat.le_of_ble_eq_true rfl | simp [va_rf_c, Value.category]) (zhf (by omega) (by omega))) (fun r_34 μ_34 h_34 => ?_)
    (try rw [← hQ])
    refine z_ireturn hX dX0_meanCycle_37 (by omega) (by omega) ?_
    exact h_34
/-- the least-ratio cycle as found -/
def rcB (a : Int → Int) : bT := match List.foldl (stp11 a) none (gC a) with
  | none => none
  | some u => if (rxN a (csF a (frN u.1 u.2) (frD u.1 u.2) true) 9 (fun _ => 0)).2 = true then fcB a (tgS a (frN u.1 u.2) (frD u.1 u.2) true (rxN a (csF a (frN u.1 u.2) (frD u.1 u.2) true) 9 (fun _ => 0)).1) (frN u.1 u.2) (frD u.1 u.2) else none
theorem x_ratioCycle (l : Launch) (E : zE) {μ : zM} {x L h mk tx : Nat} {tl : Int} {fo pc : Option Nat} {hs : Int} (hx : μ x = some (zx0 L h mk tx tl fo pc hs)) {a : Int → Int} (hG : xG E μ x a) (hg : gV a) : Met l yX0_ratioCycle (ws_ yX0_ratioCycle cX0_ratioCycle 3 (some .int)) (zR 27 2170 8700) (va_Pc [.ref x] (zPre E μ)) (zQi E (kpP E μ x L h mk tx tl fo pc hs (rcB a))) 2170 8700 (zA E) := by
  have h16 := hg.1
  refine zmet (cc := cX0_ratioCycle) [_, _, _] (by decide) (Nat.le_of_ble_eq_true rfl) rfl rfl ?_
  intro X hl hX hinit; subst hl
  have hX : zOK X _ cX0_ratioCycle RX0 (some .int) 3 := hX
  generalize hQ : MQ _ _ _ _ _ _ _ = Q
  refine z_new hX (C := RX11) (T := TX11) (N := 9) (ci := 9) rfl in_X11 tyX11 tyX11_ok q995 q996 q90 dX0_ratioCycle_0 (fs := [.int (zI 0), .null, .int (zI 0), .null, .int (zI 0), .int (zI 0), .null, .null, .null]) (by decide) (by omega) (by omega) (fun q_0 f_0 => ?_)
  have hk00 := zKp.new f_0 (zob 9 [.int (zI 0), .null, .int (zI 0), .null, .int (zI 0), .int (zI 0), .null, .null, .null])
  refine z_dup hX (by first | rfl | exact va_rf_c _) dX0_ratioCycle_3 ?_
  refine z_aload_n hX rfl (by first | rfl | exact va_rf_r _) dX0_ratioCycle_4 ?_
  refine z_callv (z_runI hX (x_ra_init _ _ (zu_s _ _ _) (hG.kp hk00)) (cwI 1 hX.ts (lw_meth q999) rfl rfl rfl (hX.t q90) (hX.t q997) (hX.t q998) rfl (by decide +kernel) (zroom (by decide) (by decide))) dX0_ratioCycle_5 rfl rfl rfl (by first | exact Nat.le_of_ble_eq_true rfl | simp [va_rf_c, Value.category]) (zhf (by omega) (by omega))) (fun μ_5 h_5 => ?_)
  obtain ⟨sq, hsq, hW⟩ := h_5; have hW0 := hW; obtain ⟨ac, sn, f, hw, -⟩ := hW0
  refine z_callq (z_runV hX (x_ra_least _ _ hg (by have : (2:Nat) ^ (a 112).toNat ≤ 2 ^ 16 := Nat.pow_le_pow_right (by omega) (by omega); omega) hW) (cwV 0 hX.ts (lw_V q1019 q1020 q1021 q90 q1022) rfl rfl rfl (by decide +kernel) (zroom (by decide) (by decide))) dX0_ratioCycle_8 (by first | assumption | exact zu_s _ _ _ | exact zu_o (by assumption) (by assumption) | exact zu_o (by assumption) (zu_o (by assumption) (by assumption)) | exact (zu_o (by first | assumption | exact Ne.symm (by assumption)) (zu_s _ _ _)) | exact (zu_o (by first | assumption | exact Ne.symm (by assumption)) (by assumption)) | exact (zu_o (by first | assumption | exact Ne.symm (by assumption)) (zu_o (by first | assumption | exact Ne.symm (by assumption)) (zu_s _ _ _))) | exact (zu_o (by first | assumption | exact Ne.symm (by assumption)) (zu_o (by first | assumption | exact Ne.symm (by assumption)) (by assumption))) | exact (zu_o (by first | assumption | exact Ne.symm (by assumption)) (zu_o (by first | assumption | exact Ne.symm (by assumption)) (zu_o (by first | assumption | exact Ne.symm (by assumption)) (zu_s _ _ _)))) | exact (zu_o (by first | assumption | exact Ne.symm (by assumption)) (zu_o (by first | assumption | exact Ne.symm (by assumption)) (zu_o (by first | assumption | exact Ne.symm (by assumption)) (by assumption)))) | exact (zu_o (by first | assumption | exact Ne.symm (by assumption)) (zu_o (by first | assumption | exact Ne.symm (by assumption)) (zu_o (by first | assumption | exact Ne.symm (by assumption)) (zu_o (by first | assumption | exact Ne.symm (by assumption)) (zu_s _ _ _))))) | exact (zu_o (by first | assumption | exact Ne.symm (by assumption)) (zu_o (by first | assumption | exact Ne.symm (by assumption)) (zu_o (by first | assumption | exact Ne.symm (by assumption)) (zu_o (by first | assumption | exact Ne.symm (by assumption)) (by assumption))))) | exact AL.at (by assumption) | exact EL.at (by assumption) | exact LL.at (by assumption)) (ci := 9) rfl rfl rfl rfl (by first | exact Nat.le_of_ble_eq_true rfl | simp [va_rf_c, Value.category]) (zhf (by omega) (by omega))) (fun r_8 μ_8 h_8 => ?_)
  obtain ⟨hF, hk2⟩ := h_8; have hk := hk2.kp2 f_0 hsq; rw [all_edges h16.1, gCs_all] at hF
  refine z_astore_n hX (lv' := [_, _, _]) (by first | rfl | exact va_rf_r _) (Nat.le_of_ble_eq_true rfl) (by first | exact zpre_0 | exact zpre_n rfl | exact zpre_1 rfl rfl | exact zpre_1 rfl (va_rf_c _)) rfl dX0_ratioCycle_11 ?_
  unfold rcB at hQ
  have hx1 := hk _ _ hx
  have hG1 := hG.kp hk
  cases hu : List.foldl (stp11 a) none (gC a) with
  | none =>
    rw [hu] at hF hQ
    obtain rfl : r_8 = none := hF
    refine z_aload_n hX rfl (by first | rfl | exact va_rf_r _) dX0_ratioCycle_12 ?_
    refine z_ifnonnull_0 hX dX0_ratioCycle_13 ?_
    refine z_ldc hX (z := -1000001) q647 (by decide) dX0_ratioCycle_16 ?_
    (try rw [← hQ])
    refine z_ireturn hX dX0_ratioCycle_18 (by omega) (by omega) ?_
    exact ⟨rfl, hk.x _, fo, hk _ _ hx, fun _ => rfl, fun q => absurd rfl q⟩
  | some u =>
    rw [hu] at hF hQ
    simp only at hQ
    obtain ⟨fr, rfl, hfr, b1, b2⟩ := hF.r
    generalize frN u.1 u.2 = n at *
    generalize frD u.1 u.2 = d at *
    refine z_aload_n hX rfl (by first | rfl | exact va_rf_r _) dX0_ratioCycle_12 ?_
    refine z_ifnonnull_r hX dX0_ratioCycle_13 (tgt := 19) rfl ?_
    refine z_new hX (C := RX6) (T := TX6) (N := 4) (ci := 6) rfl in_X6 tyX6 tyX6_ok q712 q713 q85 dX0_ratioCycle_19 (fs := [.null, .null, .int (zI 0), .null]) (by decide) (by omega) (by omega) (fun q_19 f_19 => ?_)
    have hk1 := zKp.new f_19 (zob 6 [.null, .null, .int (zI 0), .null])
    have hG2 := hG1.kp hk1
    refine z_dup hX (by first | rfl | exact va_rf_c _) dX0_ratioCycle_22 ?_
    refine z_aload_n hX rfl (by first | rfl | exact va_rf_r _) dX0_ratioCycle_23 ?_
    refine z_aload_n hX rfl (by first | rfl | exact va_rf_r _) dX0_ratioCycle_24 ?_
    refine z_iconst hX dX0_ratioCycle_25 ?_
    refine z_callv (z_runI hX (x_poI (bt := true) _ _ (zu_s _ _ _) (hk1 _ _ hfr) hG2) (cwI 3 hX.ts (lw_meth q716) rfl rfl rfl (hX.t q85) (hX.t q714) (hX.t q715) rfl (by decide +kernel) (zroom (by decide) (by decide))) dX0_ratioCycle_26 rfl rfl rfl (by first | exact Nat.le_of_ble_eq_true rfl | simp [va_rf_c, Value.category]) (zhf (by omega) (by omega))) (fun μ_26 h_26 => ?_)
    obtain ⟨su, hsu, hP, hk4⟩ := h_26
    refine z_astore_n hX (lv' := [_, _, _]) (by first | rfl | exact va_rf_r _) (Nat.le_of_ble_eq_true rfl) (by first | exact zpre_0 | exact zpre_n rfl | exact zpre_1 rfl rfl | exact zpre_1 rfl (va_rf_c _)) rfl dX0_ratioCycle_29 ?_
    have hk3 := hk.tr (hk4.kp1 f_19)
    have hp1 := hP.1
    have hcs := csF_b hg (bt := true) b1 b2
    have hk5 : zKp μ (zu μ_26 su (zaj E 8 (rxN a (csF a n d true) 9 (fun _ => 0)).1)) := hk3.nu ((hk.tr hk1).no hsu) _
    have hb := rxN_b hg (by omega) hcs 9 bd8_0
    refine z_aload_n hX rfl (by first | rfl | exact va_rf_r _) dX0_ratioCycle_30 ?_
    refine z_callb (z_runV hX (x_settle (C := 100000) _ _ hg hP (by omega) hcs bd8_0) (cwV 0 hX.ts (lw_V q733 q734 q735 q85 q736) rfl rfl rfl (by decide +kernel) (zroom (by decide) (by decide))) dX0_ratioCycle_31 (by first | assumption | exact zu_s _ _ _ | exact zu_o (by assumption) (by assumption) | exact zu_o (by assumption) (zu_o (by assumption) (by assumption)) | exact (zu_o (by first | assumption | exact Ne.symm (by assumption)) (zu_s _ _ _)) | exact (zu_o (by first | assumption | exact Ne.symm (by assumption)) (by assumption)) | exact (zu_o (by first | assumption | exact Ne.symm (by assumption)) (zu_o (by first | assumption | exact Ne.symm (by assumption)) (zu_s _ _ _))) | exact (zu_o (by first | assumption | exact Ne.symm (by assumption)) (zu_o (by first | assumption | exact Ne.symm (by assumption)) (by assumption))) | exact (zu_o (by first | assumption | exact Ne.symm (by assumption)) (zu_o (by first | assumption | exact Ne.symm (by assumption)) (zu_o (by first | assumption | exact Ne.symm (by assumption)) (zu_s _ _ _)))) | exact (zu_o (by first | assumption | exact Ne.symm (by assumption)) (zu_o (by first | assumption | exact Ne.symm (by assumption)) (zu_o (by first | assumption | exact Ne.symm (by assumption)) (by assumption)))) | exact (zu_o (by first | assumption | exact Ne.symm (by assumption)) (zu_o (by first | assumption | exact Ne.symm (by assumption)) (zu_o (by first | assumption | exact Ne.symm (by assumption)) (zu_o (by first | assumption | exact Ne.symm (by assumption)) (zu_s _ _ _))))) | exact (zu_o (by first | assumption | exact Ne.symm (by assumption)) (zu_o (by first | assumption | exact Ne.symm (by assumption)) (zu_o (by first | assumption | exact Ne.symm (by assumption)) (zu_o (by first | assumption | exact Ne.symm (by assumption)) (by assumption))))) | exact AL.at (by assumption) | exact EL.at (by assumption) | exact LL.at (by assumption)) (ci := 6) rfl rfl rfl rfl (by first | exact Nat.le_of_ble_eq_true rfl | simp [va_rf_c, Value.category]) (zhf (by omega) (by omega))) (fun r_31 μ_31 h_31 => ?_)
    obtain ⟨hr, rfl⟩ := h_31
    refine z_if_eq_b hX dX0_ratioCycle_34 (tgt := 60) rfl (fun h_34 => ?_) (fun h_34 => ?_)
    · have hr2 : (r_31 : Bool) = false := h_34
      rw [hr2] at hr
      rw [if_neg (by rw [hr]; decide)] at hQ
      refine z_ldc hX (z := -1000001) q647 (by decide) dX0_ratioCycle_60 ?_
      (try rw [← hQ])
      refine z_ireturn hX dX0_ratioCycle_62 (by omega) (by omega) ?_
      exact ⟨rfl, hk5.x _, fo, hk5 _ _ hx, fun _ => rfl, fun q => absurd rfl q⟩
    · have hr2 : (r_31 : Bool) = true := h_34
      rw [hr2] at hr
      rw [if_pos hr] at hQ
      have hP2 := hP.put (rxN a (csF a n d true) 9 (fun _ => 0)).1
      have hx5 := hk5 _ _ hx
      have hp2 := hP2.1
      generalize (rxN a (csF a n d true) 9 (fun _ => 0)).1 = F at *
      generalize zu μ_26 su (zaj E 8 F) = μ5 at *
      refine z_aload_n hX rfl (by first | rfl | exact va_rf_r _) dX0_ratioCycle_37 ?_
      refine z_new hX (C := RX9) (T := TX9) (N := 10) (ci := 7) rfl in_X9 tyX9 tyX9_ok q749 q750 q88 dX0_ratioCycle_38 (fs := [.int (zI 0), .null, .int (zI 0), .null, .int (zI 0), .int (zI 0), .null, .null, .null, .null]) (by decide) (by omega) (by omega) (fun q_38 f_38 => ?_)
      have hk0 := zKp.new f_38 (zob 7 [.int (zI 0), .null, .int (zI 0), .null, .int (zI 0), .int (zI 0), .null, .null, .null, .null])
      have hP3 := hP2.mono hk0
      have hp3 := hP3.1
      refine z_dup hX (by first | rfl | exact va_rf_c _) dX0_ratioCycle_41 ?_
      refine z_aload_n hX rfl (by first | rfl | exact va_rf_r _) dX0_ratioCycle_42 ?_
      refine z_aload_n hX rfl (by first | rfl | exact va_rf_r _) dX0_ratioCycle_43 ?_
      refine z_calli (z_runV hX (x_tightP (C := 100000) (M := 100000000) _ _ hg hP3 (by omega) (by omega) hcs (fun v v0 v7 => by have := hb v v0 v7; omega)) (cwV 0 hX.ts (lw_V q751 q752 q753 q85 q754) rfl rfl rfl (by decide +kernel) (zroom (by decide) (by decide))) dX0_ratioCycle_44 (by first | assumption | exact zu_s _ _ _ | exact zu_o (by assumption) (by assumption) | exact zu_o (by assumption) (zu_o (by assumption) (by assumption)) | exact (zu_o (by first | assumption | exact Ne.symm (by assumption)) (zu_s _ _ _)) | exact (zu_o (by first | assumption | exact Ne.symm (by assumption)) (by assumption)) | exact (zu_o (by first | assumption | exact Ne.symm (by assumption)) (zu_o (by first | assumption | exact Ne.symm (by assumption)) (zu_s _ _ _))) | exact (zu_o (by first | assumption | exact Ne.symm (by assumption)) (zu_o (by first | assumption | exact Ne.symm (by assumption)) (by assumption))) | exact (zu_o (by first | assumption | exact Ne.symm (by assumption)) (zu_o (by first | assumption | exact Ne.symm (by assumption)) (zu_o (by first | assumption | exact Ne.symm (by assumption)) (zu_s _ _ _)))) | exact (zu_o (by first | assumption | exact Ne.symm (by assumption)) (zu_o (by first | assumption | exact Ne.symm (by assumption)) (zu_o (by first | assumption | exact Ne.symm (by assumption)) (by assumption)))) | exact (zu_o (by first | assumption | exact Ne.symm (by assumption)) (zu_o (by first | assumption | exact Ne.symm (by assumption)) (zu_o (by first | assumption | exact Ne.symm (by assumption)) (zu_o (by first | assumption | exact Ne.symm (by assumption)) (zu_s _ _ _))))) | exact (zu_o (by first | assumption | exact Ne.symm (by assumption)) (zu_o (by first | assumption | exact Ne.symm (by assumption)) (zu_o (by first | assumption | exact Ne.symm (by assumption)) (zu_o (by first | assumption | exact Ne.symm (by assumption)) (by assumption))))) | exact AL.at (by assumption) | exact EL.at (by assumption) | exact LL.at (by assumption)) (ci := 6) rfl rfl rfl rfl (by first | exact Nat.le_of_ble_eq_true rfl | simp [va_rf_c, Value.category]) (zhf (by omega) (by omega))) (fun r_44 μ_44 h_44 => ?_)
      obtain ⟨rfl, rfl⟩ := h_44
      refine z_aload_n hX rfl (by first | rfl | exact va_rf_r _) dX0_ratioCycle_47 ?_
      refine z_callv (z_runI hX (x_fc_init _ _ (zu_s _ _ _) hP3.2.2.2) (cwI 3 hX.ts (lw_meth q757) rfl rfl rfl (hX.t q88) (hX.t q755) (hX.t q756) rfl (by decide +kernel) (zroom (by decide) (by decide))) dX0_ratioCycle_48 rfl rfl rfl (by first | exact Nat.le_of_ble_eq_true rfl | simp [va_rf_c, Value.category]) (zhf (by omega) (by omega))) (fun μ_48 h_48 => ?_)
      obtain ⟨sq2, hsq2, hW2⟩ := h_48; have hW3 := hW2; obtain ⟨ac2, sn2, f2, hw2, -⟩ := hW3
      refine z_callq (z_runV hX (x_fc_best _ _ hg (tgB hg) hW2) (cwV 0 hX.ts (lw_V q796 q797 q798 q88 q799) rfl rfl rfl (by decide +kernel) (zroom (by decide) (by decide))) dX0_ratioCycle_51 (by first | assumption | exact zu_s _ _ _ | exact zu_o (by assumption) (by assumption) | exact zu_o (by assumption) (zu_o (by assumption) (by assumption)) | exact (zu_o (by first | assumption | exact Ne.symm (by assumption)) (zu_s _ _ _)) | exact (zu_o (by first | assumption | exact Ne.symm (by assumption)) (by assumption)) | exact (zu_o (by first | assumption | exact Ne.symm (by assumption)) (zu_o (by first | assumption | exact Ne.symm (by assumption)) (zu_s _ _ _))) | exact (zu_o (by first | assumption | exact Ne.symm (by assumption)) (zu_o (by first | assumption | exact Ne.symm (by assumption)) (by assumption))) | exact (zu_o (by first | assumption | exact Ne.symm (by assumption)) (zu_o (by first | assumption | exact Ne.symm (by assumption)) (zu_o (by first | assumption | exact Ne.symm (by assumption)) (zu_s _ _ _)))) | exact (zu_o (by first | assumption | exact Ne.symm (by assumption)) (zu_o (by first | assumption | exact Ne.symm (by assumption)) (zu_o (by first | assumption | exact Ne.symm (by assumption)) (by assumption)))) | exact (zu_o (by first | assumption | exact Ne.symm (by assumption)) (zu_o (by first | assumption | exact Ne.symm (by assumption)) (zu_o (by first | assumption | exact Ne.symm (by assumption)) (zu_o (by first | assumption | exact Ne.symm (by assumption)) (zu_s _ _ _))))) | exact (zu_o (by first | assumption | exact Ne.symm (by assumption)) (zu_o (by first | assumption | exact Ne.symm (by assumption)) (zu_o (by first | assumption | exact Ne.symm (by assumption)) (zu_o (by first | assumption | exact Ne.symm (by assumption)) (by assumption))))) | exact AL.at (by assumption) | exact EL.at (by assumption) | exact LL.at (by assumption)) (ci := 7) rfl rfl rfl rfl (by first | exact Nat.le_of_ble_eq_true rfl | simp [va_rf_c, Value.category]) (zhf (by omega) (by omega))) (fun r_51 μ_51 h_51 => ?_)
      obtain ⟨hF2, hk6⟩ := h_51; have hk7 := hk5.tr (hk6.kp2 f_38 hsq2); have hx7 := hk7 _ _ hx; have hva := (hk6.kp2 f_38 hsq2) _ _ hP2.2.1; have hF3 := (hF2.k hva).base (hk5.tr hk0)
      refine z_calli (z_runV hX (x_keep _ _ hx7 hx hk7 hF3) (cwV 1 hX.ts (lw_V q987 q989 qs22 q65 q990) rfl rfl rfl (by decide +kernel) (zroom (by decide) (by decide))) dX0_ratioCycle_54 (by first | assumption | exact zu_s _ _ _ | exact zu_o (by assumption) (by assumption) | exact zu_o (by assumption) (zu_o (by assumption) (by assumption)) | exact (zu_o (by first | assumption | exact Ne.symm (by assumption)) (zu_s _ _ _)) | exact (zu_o (by first | assumption | exact Ne.symm (by assumption)) (by assumption)) | exact (zu_o (by first | assumption | exact Ne.symm (by assumption)) (zu_o (by first | assumption | exact Ne.symm (by assumption)) (zu_s _ _ _))) | exact (zu_o (by first | assumption | exact Ne.symm (by assumption)) (zu_o (by first | assumption | exact Ne.symm (by assumption)) (by assumption))) | exact (zu_o (by first | assumption | exact Ne.symm (by assumption)) (zu_o (by first | assumption | exact Ne.symm (by assumption)) (zu_o (by first | assumption | exact Ne.symm (by assumption)) (zu_s _ _ _)))) | exact (zu_o (by first | assumption | exact Ne.symm (by assumption)) (zu_o (by first | assumption | exact Ne.symm (by assumption)) (zu_o (by first | assumption | exact Ne.symm (by assumption)) (by assumption)))) | exact (zu_o (by first | assumption | exact Ne.symm (by assumption)) (zu_o (by first | assumption | exact Ne.symm (by assumption)) (zu_o (by first | assumption | exact Ne.symm (by assumption)) (zu_o (by first | assumption | exact Ne.symm (by assumption)) (zu_s _ _ _))))) | exact (zu_o (by first | assumption | exact Ne.symm (by assumption)) (zu_o (by first | assumption | exact Ne.symm (by assumption)) (zu_o (by first | assumption | exact Ne.symm (by assumption)) (zu_o (by first | assumption | exact Ne.symm (by assumption)) (by assumption))))) | exact AL.at (by assumption) | exact EL.at (by assumption) | exact LL.at (by assumption)) (ci := 0) rfl rfl rfl rfl (by first | exact Nat.le_of_ble_eq_true rfl | simp [va_rf_c, Value.category]) (zhf (by omega) (by omega))) (fun r_54 μ_54 h_54 => ?_)
      refine z_goto hX (tgt := 62) dX0_ratioCycle_57 rfl ?_
      (try rw [← hQ])
      refine z_ireturn hX dX0_ratioCycle_62 (by omega) (by omega) ?_
      exact h_54
/-- potentials, tight edges as answered -/
def xpV (a : Int → Int) (v : Int) : Int := match xpG a with
  | none => -1000001
  | some u => u.2.2 v
def xtV (a : Int → Int) : Int := match xpG a with
  | none => 0
  | some u => (tgS a u.1 u.2.1 false u.2.2 : Int)
theorem x_potential (l : Launch) (E : zE) {μ : zM} {x : Nat} {a : Int → Int} (hG : xG E μ x a) (hg : gV a) {v : Int} (hv : iR v) : Met l yX0_potential (ws_ yX0_potential cX0_potential 3 (some .long)) (zR 6 77 222) (va_Pc [.ref x, .int (zI v)] (zPre E μ)) (zQl E (fun r μ' => (if 0 ≤ v ∧ v ≤ 7 then xpV a v else gBAD) = r ∧ zKp μ μ')) 77 222 (zA E) := by
  have hG0 := hG
  obtain ⟨L, arr, c, rs, h', mk, tx, tl, fo, pc, hs, hx, hE⟩ := hG0
  refine zmet (cc := cX0_potential) [_, _, _] (by decide) (Nat.le_of_ble_eq_true rfl) rfl rfl ?_
  intro X hl hX hinit; subst hl
  have hX : zOK X _ cX0_potential RX0 (some .long) 3 := hX
  generalize hQ : MQ _ _ _ _ _ _ _ = Q
  refine z_iconst hX dX0_potential_0 ?_
  refine z_newI hX 1 q187 dX0_potential_1 rfl (by decide) (by omega) (by omega) (fun q_1 f_1 => ?_)
  refine z_dup hX (by first | rfl | exact va_rf_c _) dX0_potential_3 ?_
  refine z_iconst hX dX0_potential_4 ?_
  refine z_iload_n hX rfl dX0_potential_5 ?_
  refine z_iastore hX dX0_potential_6 (by first | assumption | exact zu_s _ _ _ | exact zu_o (by assumption) (by assumption) | exact zu_o (by assumption) (zu_o (by assumption) (by assumption)) | exact (zu_o (by first | assumption | exact Ne.symm (by assumption)) (zu_s _ _ _)) | exact (zu_o (by first | assumption | exact Ne.symm (by assumption)) (by assumption)) | exact (zu_o (by first | assumption | exact Ne.symm (by assumption)) (zu_o (by first | assumption | exact Ne.symm (by assumption)) (zu_s _ _ _))) | exact (zu_o (by first | assumption | exact Ne.symm (by assumption)) (zu_o (by first | assumption | exact Ne.symm (by assumption)) (by assumption))) | exact (zu_o (by first | assumption | exact Ne.symm (by assumption)) (zu_o (by first | assumption | exact Ne.symm (by assumption)) (zu_o (by first | assumption | exact Ne.symm (by assumption)) (zu_s _ _ _)))) | exact (zu_o (by first | assumption | exact Ne.symm (by assumption)) (zu_o (by first | assumption | exact Ne.symm (by assumption)) (zu_o (by first | assumption | exact Ne.symm (by assumption)) (by assumption)))) | exact (zu_o (by first | assumption | exact Ne.symm (by assumption)) (zu_o (by first | assumption | exact Ne.symm (by assumption)) (zu_o (by first | assumption | exact Ne.symm (by assumption)) (zu_o (by first | assumption | exact Ne.symm (by assumption)) (zu_s _ _ _))))) | exact (zu_o (by first | assumption | exact Ne.symm (by assumption)) (zu_o (by first | assumption | exact Ne.symm (by assumption)) (zu_o (by first | assumption | exact Ne.symm (by assumption)) (zu_o (by first | assumption | exact Ne.symm (by assumption)) (by assumption))))) | exact AL.at (by assumption) | exact EL.at (by assumption) | exact LL.at (by assumption)) (by omega) ?_
  refine z_callb (z_runS hX (x_areNodes _ _ (zu_s _ _ _) (by decide) (zf_iR (fun _ => by unfold iR; omega) hv)) (va_cwS 1 hX.ts (lw_S q193 q194 q65 q195) rfl rfl rfl (by decide +kernel) (zroom (by decide) (by decide))) dX0_potential_7 rfl rfl rfl (by first | exact Nat.le_of_ble_eq_true rfl | simp [va_rf_c, Value.category]) (zhf (by omega) (by omega))) (fun r_7 μ_7 h_7 => ?_)
  obtain ⟨rfl, rfl⟩ := h_7; rw [nd1]
  refine z_if_ne_b hX dX0_potential_10 (tgt := 17) rfl (fun h_10 => ?_) (fun h_10 => ?_)
  · have hn : 0 ≤ v ∧ v ≤ 7 := of_decide_eq_true h_10
    have hk1 : zKp μ (zu (zu μ q_1 (zai E 1 (fun _ => 0))) q_1 (zai E 1 (zf (fun _ => 0) 0 v))) := ((zKp.rf μ).nu f_1 _).nu f_1 _
    generalize zu (zu μ q_1 (zai E 1 (fun _ => 0))) q_1 (zai E 1 (zf (fun _ => 0) 0 v)) = μ1 at hk1
    have hx1 := hk1 _ _ hx
    refine z_aload_n hX rfl (by first | rfl | exact va_rf_r _) dX0_potential_17 ?_
    refine z_callq (z_runV hX (x_meanPot _ _ (hG.kp hk1) hg) (cwV 0 hX.ts (lw_V q656 q658 qs19 q65 q659) rfl rfl rfl (by decide +kernel) (zroom (by decide) (by decide))) dX0_potential_18 (by first | assumption | exact zu_s _ _ _ | exact zu_o (by assumption) (by assumption) | exact zu_o (by assumption) (zu_o (by assumption) (by assumption)) | exact (zu_o (by first | assumption | exact Ne.symm (by assumption)) (zu_s _ _ _)) | exact (zu_o (by first | assumption | exact Ne.symm (by assumption)) (by assumption)) | exact (zu_o (by first | assumption | exact Ne.symm (by assumption)) (zu_o (by first | assumption | exact Ne.symm (by assumption)) (zu_s _ _ _))) | exact (zu_o (by first | assumption | exact Ne.symm (by assumption)) (zu_o (by first | assumption | exact Ne.symm (by assumption)) (by assumption))) | exact (zu_o (by first | assumption | exact Ne.symm (by assumption)) (zu_o (by first | assumption | exact Ne.symm (by assumption)) (zu_o (by first | assumption | exact Ne.symm (by assumption)) (zu_s _ _ _)))) | exact (zu_o (by first | assumption | exact Ne.symm (by assumption)) (zu_o (by first | assumption | exact Ne.symm (by assumption)) (zu_o (by first | assumption | exact Ne.symm (by assumption)) (by assumption)))) | exact (zu_o (by first | assumption | exact Ne.symm (by assumption)) (zu_o (by first | assumption | exact Ne.symm (by assumption)) (zu_o (by first | assumption | exact Ne.symm (by assumption)) (zu_o (by first | assumption | exact Ne.symm (by assumption)) (zu_s _ _ _))))) | exact (zu_o (by first | assumption | exact Ne.symm (by assumption)) (zu_o (by first | assumption | exact Ne.symm (by assumption)) (zu_o (by first | assumption | exact Ne.symm (by assumption)) (zu_o (by first | assumption | exact Ne.symm (by assumption)) (by assumption))))) | exact AL.at (by assumption) | exact EL.at (by assumption) | exact LL.at (by assumption)) (ci := 0) rfl rfl rfl rfl (by first | exact Nat.le_of_ble_eq_true rfl | simp [va_rf_c, Value.category]) (zhf (by omega) (by omega))) (fun r_18 μ_18 h_18 => ?_)
    obtain ⟨hF, hk⟩ := h_18
    refine z_astore_n hX (lv' := [_, _, _]) (by first | rfl | exact va_rf_r _) (Nat.le_of_ble_eq_true rfl) (by first | exact zpre_0 | exact zpre_n rfl | exact zpre_1 rfl rfl | exact zpre_1 rfl (va_rf_c _)) rfl dX0_potential_21 ?_
    rw [if_pos hn] at hQ
    unfold xpV at hQ
    cases hu : xpG a with
    | none =>
      rw [hu] at hF hQ
      obtain rfl : r_18 = none := hF
      refine z_aload_n hX rfl (by first | rfl | exact va_rf_r _) dX0_potential_22 ?_
      refine z_ifnonnull_0 hX dX0_potential_23 ?_
      refine z_ldc2_w hX (z := -1000001) q1105 (by decide) dX0_potential_26 ?_
      refine z_goto hX (tgt := 38) dX0_potential_29 rfl ?_
      (try rw [← hQ])
      refine z_lreturn hX dX0_potential_38 (by omega) (by omega) ?_
      exact ⟨rfl, hk1.tr hk⟩
    | some u =>
      rw [hu] at hF hQ
      simp only at hQ
      obtain ⟨⟨w, su, va, rfl, hP⟩, b1, b2, b3⟩ := hF
      have hp1 := hP.1
      have hp3 := hP.2.2.1
      refine z_aload_n hX rfl (by first | rfl | exact va_rf_r _) dX0_potential_22 ?_
      refine z_ifnonnull_r hX dX0_potential_23 (tgt := 32) rfl ?_
      refine z_aload_n hX rfl (by first | rfl | exact va_rf_r _) dX0_potential_32 ?_
      refine z_getN hX (C := RX6) (T := TX6) (N := 4) (ci := 6) rfl in_X6 0 (by decide) q719 (Or.inl rfl) dX0_potential_33 (by first | assumption | exact zu_s _ _ _ | exact zu_o (by assumption) (by assumption) | exact zu_o (by assumption) (zu_o (by assumption) (by assumption)) | exact (zu_o (by first | assumption | exact Ne.symm (by assumption)) (zu_s _ _ _)) | exact (zu_o (by first | assumption | exact Ne.symm (by assumption)) (by assumption)) | exact (zu_o (by first | assumption | exact Ne.symm (by assumption)) (zu_o (by first | assumption | exact Ne.symm (by assumption)) (zu_s _ _ _))) | exact (zu_o (by first | assumption | exact Ne.symm (by assumption)) (zu_o (by first | assumption | exact Ne.symm (by assumption)) (by assumption))) | exact (zu_o (by first | assumption | exact Ne.symm (by assumption)) (zu_o (by first | assumption | exact Ne.symm (by assumption)) (zu_o (by first | assumption | exact Ne.symm (by assumption)) (zu_s _ _ _)))) | exact (zu_o (by first | assumption | exact Ne.symm (by assumption)) (zu_o (by first | assumption | exact Ne.symm (by assumption)) (zu_o (by first | assumption | exact Ne.symm (by assumption)) (by assumption)))) | exact (zu_o (by first | assumption | exact Ne.symm (by assumption)) (zu_o (by first | assumption | exact Ne.symm (by assumption)) (zu_o (by first | assumption | exact Ne.symm (by assumption)) (zu_o (by first | assumption | exact Ne.symm (by assumption)) (zu_s _ _ _))))) | exact (zu_o (by first | assumption | exact Ne.symm (by assumption)) (zu_o (by first | assumption | exact Ne.symm (by assumption)) (zu_o (by first | assumption | exact Ne.symm (by assumption)) (zu_o (by first | assumption | exact Ne.symm (by assumption)) (by assumption))))) | exact AL.at (by assumption) | exact EL.at (by assumption) | exact LL.at (by assumption)) rfl ?_
      refine z_iload_n hX rfl dX0_potential_36 ?_
      refine z_laload hX dX0_potential_37 (by first | assumption | exact zu_s _ _ _ | exact zu_o (by assumption) (by assumption) | exact zu_o (by assumption) (zu_o (by assumption) (by assumption)) | exact (zu_o (by first | assumption | exact Ne.symm (by assumption)) (zu_s _ _ _)) | exact (zu_o (by first | assumption | exact Ne.symm (by assumption)) (by assumption)) | exact (zu_o (by first | assumption | exact Ne.symm (by assumption)) (zu_o (by first | assumption | exact Ne.symm (by assumption)) (zu_s _ _ _))) | exact (zu_o (by first | assumption | exact Ne.symm (by assumption)) (zu_o (by first | assumption | exact Ne.symm (by assumption)) (by assumption))) | exact (zu_o (by first | assumption | exact Ne.symm (by assumption)) (zu_o (by first | assumption | exact Ne.symm (by assumption)) (zu_o (by first | assumption | exact Ne.symm (by assumption)) (zu_s _ _ _)))) | exact (zu_o (by first | assumption | exact Ne.symm (by assumption)) (zu_o (by first | assumption | exact Ne.symm (by assumption)) (zu_o (by first | assumption | exact Ne.symm (by assumption)) (by assumption)))) | exact (zu_o (by first | assumption | exact Ne.symm (by assumption)) (zu_o (by first | assumption | exact Ne.symm (by assumption)) (zu_o (by first | assumption | exact Ne.symm (by assumption)) (zu_o (by first | assumption | exact Ne.symm (by assumption)) (zu_s _ _ _))))) | exact (zu_o (by first | assumption | exact Ne.symm (by assumption)) (zu_o (by first | assumption | exact Ne.symm (by assumption)) (zu_o (by first | assumption | exact Ne.symm (by assumption)) (zu_o (by first | assumption | exact Ne.symm (by assumption)) (by assumption))))) | exact AL.at (by assumption) | exact EL.at (by assumption) | exact LL.at (by assumption)) (by omega) ?_
      (try rw [← hQ])
      refine z_lreturn hX dX0_potential_38 (by omega) (by omega) ?_
      exact ⟨rfl, hk1.tr hk⟩
  · have hn : ¬ (0 ≤ v ∧ v ≤ 7) := of_decide_eq_false h_10
    refine z_ldc2_w hX (z := -1000002) q1099 (by decide) dX0_potential_13 ?_
    (try rw [← hQ])
    refine z_lreturn hX dX0_potential_16 (by omega) (by omega) ?_
    rw [if_neg hn]
    exact ⟨rfl, ((zKp.rf μ).nu f_1 _).nu f_1 _⟩
theorem x_tight (l : Launch) (E : zE) {μ : zM} {x : Nat} {a : Int → Int} (hG : xG E μ x a) (hg : gV a) : Met l yX0_tight (ws_ yX0_tight cX0_tight 2 (some .int)) (zR 6 76 221) (va_Pc [.ref x] (zPre E μ)) (zQi E (fun r μ' => xtV a = r ∧ zKp μ μ')) 76 221 (zA E) := by
  have hG0 := hG
  obtain ⟨L, arr, c, rs, h', mk, tx, tl, fo, pc, hs, hx, hE⟩ := hG0
  refine zmet (cc := cX0_tight) [_, _] (by decide) (Nat.le_of_ble_eq_true rfl) rfl rfl ?_
  intro X hl hX hinit; subst hl
  have hX : zOK X _ cX0_tight RX0 (some .int) 2 := hX
  generalize hQ : MQ _ _ _ _ _ _ _ = Q
  refine z_aload_n hX rfl (by first | rfl | exact va_rf_r _) dX0_tight_0 ?_
  refine z_callq (z_runV hX (x_meanPot _ _ hG hg) (cwV 0 hX.ts (lw_V q656 q658 qs19 q65 q659) rfl rfl rfl (by decide +kernel) (zroom (by decide) (by decide))) dX0_tight_1 (by first | assumption | exact zu_s _ _ _ | exact zu_o (by assumption) (by assumption) | exact zu_o (by assumption) (zu_o (by assumption) (by assumption)) | exact (zu_o (by first | assumption | exact Ne.symm (by assumption)) (zu_s _ _ _)) | exact (zu_o (by first | assumption | exact Ne.symm (by assumption)) (by assumption)) | exact (zu_o (by first | assumption | exact Ne.symm (by assumption)) (zu_o (by first | assumption | exact Ne.symm (by assumption)) (zu_s _ _ _))) | exact (zu_o (by first | assumption | exact Ne.symm (by assumption)) (zu_o (by first | assumption | exact Ne.symm (by assumption)) (by assumption))) | exact (zu_o (by first | assumption | exact Ne.symm (by assumption)) (zu_o (by first | assumption | exact Ne.symm (by assumption)) (zu_o (by first | assumption | exact Ne.symm (by assumption)) (zu_s _ _ _)))) | exact (zu_o (by first | assumption | exact Ne.symm (by assumption)) (zu_o (by first | assumption | exact Ne.symm (by assumption)) (zu_o (by first | assumption | exact Ne.symm (by assumption)) (by assumption)))) | exact (zu_o (by first | assumption | exact Ne.symm (by assumption)) (zu_o (by first | assumption | exact Ne.symm (by assumption)) (zu_o (by first | assumption | exact Ne.symm (by assumption)) (zu_o (by first | assumption | exact Ne.symm (by assumption)) (zu_s _ _ _))))) | exact (zu_o (by first | assumption | exact Ne.symm (by assumption)) (zu_o (by first | assumption | exact Ne.symm (by assumption)) (zu_o (by first | assumption | exact Ne.symm (by assumption)) (zu_o (by first | assumption | exact Ne.symm (by assumption)) (by assumption))))) | exact AL.at (by assumption) | exact EL.at (by assumption) | exact LL.at (by assumption)) (ci := 0) rfl rfl rfl rfl (by first | exact Nat.le_of_ble_eq_true rfl | simp [va_rf_c, Value.category]) (zhf (by omega) (by omega))) (fun r_1 μ_1 h_1 => ?_)
  obtain ⟨hF, hk⟩ := h_1
  refine z_astore_n hX (lv' := [_, _]) (by first | rfl | exact va_rf_r _) (Nat.le_of_ble_eq_true rfl) (by first | exact zpre_0 | exact zpre_n rfl | exact zpre_1 rfl rfl | exact zpre_1 rfl (va_rf_c _)) rfl dX0_tight_4 ?_
  unfold xtV at hQ
  cases hu : xpG a with
  | none =>
    rw [hu] at hF hQ
    obtain rfl : r_1 = none := hF
    refine z_aload_n hX rfl (by first | rfl | exact va_rf_r _) dX0_tight_5 ?_
    refine z_ifnonnull_0 hX dX0_tight_6 ?_
    refine z_iconst hX dX0_tight_9 ?_
    refine z_goto hX (tgt := 17) dX0_tight_10 rfl ?_
    (try rw [← hQ])
    refine z_ireturn hX dX0_tight_17 (by omega) (by omega) ?_
    exact ⟨rfl, hk⟩
  | some u =>
    rw [hu] at hF hQ
    simp only at hQ
    obtain ⟨⟨w, su, va, rfl, hP⟩, b1, b2, b3⟩ := hF
    have hp1 := hP.1
    have hcs := csF_b hg (bt := false) b1 b2
    refine z_aload_n hX rfl (by first | rfl | exact va_rf_r _) dX0_tight_5 ?_
    refine z_ifnonnull_r hX dX0_tight_6 (tgt := 13) rfl ?_
    refine z_aload_n hX rfl (by first | rfl | exact va_rf_r _) dX0_tight_13 ?_
    refine z_calli (z_runV hX (x_tightP (C := 100000) (M := 100000000) _ _ hg hP (by omega) (by omega) hcs b3) (cwV 0 hX.ts (lw_V q751 q752 q753 q85 q754) rfl rfl rfl (by decide +kernel) (zroom (by decide) (by decide))) dX0_tight_14 (by first | assumption | exact zu_s _ _ _ | exact zu_o (by assumption) (by assumption) | exact zu_o (by assumption) (zu_o (by assumption) (by assumption)) | exact (zu_o (by first | assumption | exact Ne.symm (by assumption)) (zu_s _ _ _)) | exact (zu_o (by first | assumption | exact Ne.symm (by assumption)) (by assumption)) | exact (zu_o (by first | assumption | exact Ne.symm (by assumption)) (zu_o (by first | assumption | exact Ne.symm (by assumption)) (zu_s _ _ _))) | exact (zu_o (by first | assumption | exact Ne.symm (by assumption)) (zu_o (by first | assumption | exact Ne.symm (by assumption)) (by assumption))) | exact (zu_o (by first | assumption | exact Ne.symm (by assumption)) (zu_o (by first | assumption | exact Ne.symm (by assumption)) (zu_o (by first | assumption | exact Ne.symm (by assumption)) (zu_s _ _ _)))) | exact (zu_o (by first | assumption | exact Ne.symm (by assumption)) (zu_o (by first | assumption | exact Ne.symm (by assumption)) (zu_o (by first | assumption | exact Ne.symm (by assumption)) (by assumption)))) | exact (zu_o (by first | assumption | exact Ne.symm (by assumption)) (zu_o (by first | assumption | exact Ne.symm (by assumption)) (zu_o (by first | assumption | exact Ne.symm (by assumption)) (zu_o (by first | assumption | exact Ne.symm (by assumption)) (zu_s _ _ _))))) | exact (zu_o (by first | assumption | exact Ne.symm (by assumption)) (zu_o (by first | assumption | exact Ne.symm (by assumption)) (zu_o (by first | assumption | exact Ne.symm (by assumption)) (zu_o (by first | assumption | exact Ne.symm (by assumption)) (by assumption))))) | exact AL.at (by assumption) | exact EL.at (by assumption) | exact LL.at (by assumption)) (ci := 6) rfl rfl rfl rfl (by first | exact Nat.le_of_ble_eq_true rfl | simp [va_rf_c, Value.category]) (zhf (by omega) (by omega))) (fun r_14 μ_14 h_14 => ?_)
    obtain ⟨rfl, rfl⟩ := h_14
    (try rw [← hQ])
    refine z_ireturn hX dX0_tight_17 (by omega) (by omega) ?_
    exact ⟨rfl, hk⟩
