/-! MODEL 12: nodes that are reached, lengths -/
set_option maxRecDepth 100000
theorem gV_to {a : Int → Int} (hg : gV a) : ∀ e, 0 ≤ e → e < a 112 → 0 ≤ a (7 * e + 1) ∧ a (7 * e + 1) ≤ 7 := fun e h0 h1 => (gV_n hg e h0 h1).2
theorem m_reached (l : Launch) (E : zE) {ν : zM} {m0 : Nat} {ad : Nat → Nat} {s : Nat → Int} {A : Nat → Int → Int} (hD : mD m0 ad) (hg : gV (A 0)) {u : Int} (hu : 0 ≤ u ∧ u ≤ 7) : Met l yX1_reached (ws_ yX1_reached cX1_reached 5 (some .int)) (zR 2 0 0) (va_Pc [.ref m0, .int (zI u)] (zPre E (mM E ν m0 ad s A))) (zQi E (fun r μ' => mM E ν m0 ad s A = μ' ∧ (rcA (A 0) u : Int) = r)) 0 0 (zA E) := by
  have hn := hg.1
  have hto := gV_to hg
  refine zmet (cc := cX1_reached) [_, _, _, _, _] (by decide) (Nat.le_of_ble_eq_true rfl) rfl rfl ?_
  intro X hl hX hinit; subst hl
  have hX : zOK X _ cX1_reached RX1 (some .int) 5 := hX
  generalize hQ : MQ _ _ _ _ _ _ _ = Q
  have inner : ∀ (n : Nat) (i : Int) (M W1 : Nat), 0 ≤ i → i ≤ A 0 112 → A 0 112 < i + n → M < 256 → W1 < 256 → (∀ y, zW X (zR 2 0 0) E (mM E ν m0 ad s A) 0 0 Q 65 [some (.ref m0), some (.int (zI u)), some (.int (zI ((rcP (A 0) M (er i (A 0 112)) : Nat) : Int))), some (.int (zI (W1 : Int))), y] []) → zW X (zR 2 0 0) E (mM E ν m0 ad s A) 0 0 Q 16 [some (.ref m0), some (.int (zI u)), some (.int (zI (M : Int))), some (.int (zI (W1 : Int))), some (.int (zI i))] [] := by
    intro n
    induction n with
    | zero => intros; exfalso; omega
    | succ n ih =>
      intro i M W1 h0 h1 hn2 hM hW kk
      refine z_iload hX rfl dX1_reached_16 ?_
      refine z_aload_n hX rfl (by first | rfl | exact va_rf_r _) dX1_reached_18 ?_
      refine zm_get hX 0 (by decide) q1370 dX1_reached_19 rfl rfl ?_
      refine z_bipush hX (by decide) dX1_reached_22 ?_
      refine zm_iaload hX hD 0 (by decide) (by decide) 113 rfl dX1_reached_24 (by omega) ?_
      refine z_icmp_ge hX (by omega) (by omega) dX1_reached_25 (tgt := 65) rfl (fun h_25 => ?_) (fun h_25 => ?_)
      · obtain rfl : i = A 0 112 := by omega
        rw [er_nil (Int.le_refl _)] at kk
        exact kk _
      · have hv := hg.2 i h0 (by omega)
        unfold eV at hv
        have nt := hto i h0 (by omega)
        rw [er_cons (show i < A 0 112 by omega)] at kk
        simp only [rcP, List.foldl_cons] at kk
        have hlt := rcE_lt (a := A 0) (e := i) (M := M) (by omega) hM
        obtain ⟨v, hv1⟩ : ∃ v : Nat, A 0 (7 * i) = (v : Int) := ⟨(A 0 (7 * i)).toNat, by omega⟩
        have hsh := zshr (M := M) (v := v) (by omega) (by omega)
        have hbt := bit_div M v
        have hrc : rcE (A 0) M i = if M / 2 ^ v % 2 = 1 then M ||| 2 ^ (A 0 (7 * i + 1)).toNat else M := by
          rw [rcE, hv1, Int.toNat_natCast, hbt]
          simp only [decide_eq_true_eq]
        refine z_iload_n hX rfl dX1_reached_28 ?_
        refine z_iload_n hX rfl dX1_reached_29 ?_
        refine z_aload_n hX rfl (by first | rfl | exact va_rf_r _) dX1_reached_30 ?_
        refine z_iload hX rfl dX1_reached_31 ?_
        refine z_iconst hX dX1_reached_33 ?_
        refine z_calli (z_runV hX (m_of0 _ _ hD (by omega)) (cwV 2 hX.ts (lw_V q1529 q1531 qs34 q71 q1532) rfl rfl rfl (by decide +kernel) (zroom (by decide) (by decide))) dX1_reached_34 mM_0 (ci := 1) rfl rfl rfl rfl (by first | exact Nat.le_of_ble_eq_true rfl | simp [va_rf_c, Value.category]) (zhf (by omega) (by omega))) (fun r_34 μ_34 h_34 => ?_)
        obtain ⟨rfl, rfl⟩ := h_34; rw [hv1]
        refine z_ishr hX (z := ((M/2^v:Nat):Int)) hsh dX1_reached_37 ?_
        refine z_iconst hX dX1_reached_38 ?_
        refine z_iand hX (z := ((M/2^v%2:Nat):Int)) (zand1 _) dX1_reached_39 ?_
        refine z_iconst hX dX1_reached_40 ?_
        refine z_icmp_ne hX (by omega) (by omega) dX1_reached_41 (tgt := 56) rfl (fun h_41 => ?_) (fun h_41 => ?_)
        · rw [if_neg (by omega)] at hrc
          rw [hrc] at kk hlt
          refine z_iconst hX dX1_reached_56 ?_
          refine z_ior hX (z := (M:Int)) (zor0 _ (by omega)) dX1_reached_57 ?_
          refine z_istore_n hX (lv' := [_, _, _, _, _]) (Nat.le_of_ble_eq_true rfl) (by first | exact zpre_0 | exact zpre_n rfl | exact zpre_1 rfl rfl | exact zpre_1 rfl (va_rf_c _)) rfl dX1_reached_58 ?_
          refine z_iinc hX (lv' := [_, _, _, _, _]) rfl (Nat.le_of_ble_eq_true rfl) (by first | exact zpre_0 | exact zpre_n rfl | exact zpre_1 rfl rfl | exact zpre_1 rfl (va_rf_c _)) rfl dX1_reached_59 ?_
          refine z_goto hX (tgt := 16) dX1_reached_62 rfl ?_
          exact ih (i + 1) M W1 (by omega) (by omega) (by omega) hM hW kk
        · rw [if_pos (by omega)] at hrc
          rw [hrc] at kk hlt
          refine z_iconst hX dX1_reached_44 ?_
          refine z_aload_n hX rfl (by first | rfl | exact va_rf_r _) dX1_reached_45 ?_
          refine z_iload hX rfl dX1_reached_46 ?_
          refine z_iconst hX dX1_reached_48 ?_
          refine z_calli (z_runV hX (m_of _ _ hD (by omega)) (cwV 2 hX.ts (lw_V q1529 q1531 qs34 q71 q1532) rfl rfl rfl (by decide +kernel) (zroom (by decide) (by decide))) dX1_reached_49 mM_0 (ci := 1) rfl rfl rfl rfl (by first | exact Nat.le_of_ble_eq_true rfl | simp [va_rf_c, Value.category]) (zhf (by omega) (by omega))) (fun r_49 μ_49 h_49 => ?_)
          obtain ⟨rfl, rfl⟩ := h_49
          refine z_ishl hX (z := ((2^(A 0 (7 * i + 1)).toNat:Nat):Int)) (zshlI (by omega) (by omega)) dX1_reached_52 ?_
          refine z_goto hX (tgt := 57) dX1_reached_53 rfl ?_
          refine z_ior hX (z := ((M|||2^(A 0 (7 * i + 1)).toNat:Nat):Int)) (zor _ _) dX1_reached_57 ?_
          refine z_istore_n hX (lv' := [_, _, _, _, _]) (Nat.le_of_ble_eq_true rfl) (by first | exact zpre_0 | exact zpre_n rfl | exact zpre_1 rfl rfl | exact zpre_1 rfl (va_rf_c _)) rfl dX1_reached_58 ?_
          refine z_iinc hX (lv' := [_, _, _, _, _]) rfl (Nat.le_of_ble_eq_true rfl) (by first | exact zpre_0 | exact zpre_n rfl | exact zpre_1 rfl rfl | exact zpre_1 rfl (va_rf_c _)) rfl dX1_reached_59 ?_
          refine z_goto hX (tgt := 16) dX1_reached_62 rfl ?_
          exact ih (i + 1) _ W1 (by omega) (by omega) (by omega) hlt hW kk
  have loop : ∀ (k : Nat) (M : Nat), M < 256 → 256 - M < k + 1 → rcF (A 0) k M = rcA (A 0) u → ∀ (W1 : Nat), W1 < 256 → ¬ M = W1 → ∀ y, zW X (zR 2 0 0) E (mM E ν m0 ad s A) 0 0 Q 6 [some (.ref m0), some (.int (zI u)), some (.int (zI (M : Int))), some (.int (zI (W1 : Int))), y] [] := by
    intro k
    induction k with
    | zero => intros; exfalso; omega
    | succ k ih =>
      intro M hM hk he W1 hW hne y
      refine zW.mask [true, true, true, true, false] (lv' := [_, _, _, _, none]) rfl ?_
      have hle := rcP_le (A 0) (er 0 (A 0 112)) M
      have hlt := rcP_lt (a := A 0) (er 0 (A 0 112)) M (fun e he => hto e (er_mem.mp he).1 (er_mem.mp he).2) hM
      refine z_iload_n hX rfl dX1_reached_6 ?_
      refine z_iload_n hX rfl dX1_reached_7 ?_
      refine z_icmp_eq hX (by omega) (by omega) dX1_reached_8 (tgt := 68) rfl (fun h_8 => ?_) (fun h_8 => ?_)
      · exact absurd h_8 (by omega)
      · refine z_iload_n hX rfl dX1_reached_11 ?_
        refine z_istore_n hX (lv' := [_, _, _, _, _]) (Nat.le_of_ble_eq_true rfl) (by first | exact zpre_0 | exact zpre_n rfl | exact zpre_1 rfl rfl | exact zpre_1 rfl (va_rf_c _)) rfl dX1_reached_12 ?_
        refine z_iconst hX dX1_reached_13 ?_
        refine z_istore hX (lv' := [_, _, _, _, _]) (Nat.le_of_ble_eq_true rfl) (by first | exact zpre_0 | exact zpre_n rfl | exact zpre_1 rfl rfl | exact zpre_1 rfl (va_rf_c _)) rfl dX1_reached_14 ?_
        refine inner (A 0 112 + 1).toNat 0 M M (by omega) (by omega) (by omega) hM hM (fun y => ?_)
        rw [rcF] at he
        by_cases hq : rcP (A 0) M (er 0 (A 0 112)) = M
        · rw [if_pos hq] at he
          rw [hq]
          refine zW.mask [true, true, true, true, false] (lv' := [_, _, _, _, none]) rfl ?_
          refine z_goto hX (tgt := 6) dX1_reached_65 rfl ?_
          refine z_iload_n hX rfl dX1_reached_6 ?_
          refine z_iload_n hX rfl dX1_reached_7 ?_
          refine z_icmp_eq hX (by omega) (by omega) dX1_reached_8 (tgt := 68) rfl (fun h_8 => ?_) (fun h_8 => ?_)
          · refine z_iload_n hX rfl dX1_reached_68 ?_
            (try rw [← hQ])
            refine z_ireturn hX dX1_reached_69 (by omega) (by omega) ?_
            exact ⟨rfl, by rw [he]⟩
          · exact absurd rfl h_8
        · rw [if_neg hq] at he
          refine z_goto hX (tgt := 6) dX1_reached_65 rfl ?_
          exact ih _ hlt (by omega) he M hM hq _
  have hp : 2 ^ u.toNat < 256 := by
    have h8 : 2 ^ u.toNat < 2 ^ 8 := Nat.pow_lt_pow_right (by omega) (by omega)
    exact h8
  have hp0 : 0 < 2 ^ u.toNat := Nat.pow_pos (by omega)
  refine z_iconst hX dX1_reached_0 ?_
  refine z_iload_n hX rfl dX1_reached_1 ?_
  refine z_ishl hX (z := ((2^u.toNat:Nat):Int)) (zshlI (by omega) (by omega)) dX1_reached_2 ?_
  refine z_istore_n hX (lv' := [_, _, _, _, _]) (Nat.le_of_ble_eq_true rfl) (by first | exact zpre_0 | exact zpre_n rfl | exact zpre_1 rfl rfl | exact zpre_1 rfl (va_rf_c _)) rfl dX1_reached_3 ?_
  refine z_iconst hX dX1_reached_4 ?_
  refine z_istore_n hX (lv' := [_, _, _, _, _]) (Nat.le_of_ble_eq_true rfl) (by first | exact zpre_0 | exact zpre_n rfl | exact zpre_1 rfl rfl | exact zpre_1 rfl (va_rf_c _)) rfl dX1_reached_5 ?_
  have h := loop 256 (2 ^ u.toNat) hp (by omega) rfl 0 (by omega) (by omega) none
  exact h
theorem m_leads (l : Launch) (E : zE) {ν : zM} {m0 : Nat} {ad : Nat → Nat} {s : Nat → Int} {A : Nat → Int → Int} (hD : mD m0 ad) (hg : gV (A 0)) {u v : Int} (hu : 0 ≤ u ∧ u ≤ 7) (hv : 0 ≤ v ∧ v ≤ 7) : Met l yX1_leads (ws_ yX1_leads cX1_leads 3 (some .boolean)) (zR 3 0 0) (va_Pc [.ref m0, .int (zI u), .int (zI v)] (zPre E (mM E ν m0 ad s A))) (zQb E (fun r μ' => mM E ν m0 ad s A = μ' ∧ ldB (A 0) u v = r)) 0 0 (zA E) := by
  have hlt := rcA_lt (gV_to hg) hu
  obtain ⟨w, rfl⟩ : ∃ w : Nat, v = w := ⟨v.toNat, by omega⟩
  have hbt := bit_div (rcA (A 0) u) w
  refine zmet (cc := cX1_leads) [_, _, _] (by decide) (Nat.le_of_ble_eq_true rfl) rfl rfl ?_
  intro X hl hX hinit; subst hl
  have hX : zOK X _ cX1_leads RX1 (some .boolean) 3 := hX
  refine z_aload_n hX rfl (by first | rfl | exact va_rf_r _) dX1_leads_0 ?_
  refine z_iload_n hX rfl dX1_leads_1 ?_
  refine z_calli (z_runV hX (m_reached _ _ hD hg hu) (cwV 1 hX.ts (lw_V q1715 q1717 qs56 q71 q1718) rfl rfl rfl (by decide +kernel) (zroom (by decide) (by decide))) dX1_leads_2 mM_0 (ci := 1) rfl rfl rfl rfl (by first | exact Nat.le_of_ble_eq_true rfl | simp [va_rf_c, Value.category]) (zhf (by omega) (by omega))) (fun r_2 μ_2 h_2 => ?_)
  obtain ⟨rfl, rfl⟩ := h_2
  refine z_iload_n hX rfl dX1_leads_5 ?_
  refine z_ishr hX (z := ((rcA (A 0) u/2^w:Nat):Int)) (zshr (by omega) (by omega)) dX1_leads_6 ?_
  refine z_iconst hX dX1_leads_7 ?_
  refine z_iand hX (z := ((rcA (A 0) u/2^w%2:Nat):Int)) (zand1 _) dX1_leads_8 ?_
  refine z_iconst hX dX1_leads_9 ?_
  refine z_icmp_ne hX (by omega) (by omega) dX1_leads_10 (tgt := 17) rfl (fun h_10 => ?_) (fun h_10 => ?_)
  · refine z_iconst hX dX1_leads_17 ?_
    (try rw [← hQ])
    first | refine z_breturn hX true dX1_leads_18 (by omega) (by omega) ?_ | refine z_breturn hX false dX1_leads_18 (by omega) (by omega) ?_ | refine z_breturn hX _ dX1_leads_18 (by omega) (by omega) ?_
    exact ⟨rfl, by rw [ldB, Int.toNat_natCast, hbt]; exact decide_eq_false (by omega)⟩
  · refine z_iconst hX dX1_leads_13 ?_
    refine z_goto hX (tgt := 18) dX1_leads_14 rfl ?_
    (try rw [← hQ])
    first | refine z_breturn hX true dX1_leads_18 (by omega) (by omega) ?_ | refine z_breturn hX false dX1_leads_18 (by omega) (by omega) ?_ | refine z_breturn hX _ dX1_leads_18 (by omega) (by omega) ?_
    exact ⟨rfl, by rw [ldB, Int.toNat_natCast, hbt]; exact decide_eq_true (by omega)⟩
/-- a walk's length at p / q, q times -/
def lnW (a : Int → Int) (p q : Int) (w : List Int) : Int := q * esum a 2 w + p * esum a 3 w
def unbS (a : Int → Int) (f t p q s : Int) : Bool := ldB a f s && ldB a s t && (gAll a s s (lowT s)).any (fun w => decide (lnW a p q w < 0))
def unbF (a : Int → Int) (f t p q : Int) : Bool := (er 0 8).any (unbS a f t p q)
theorem lnW_r {a : Int → Int} (hg : gV a) {p q : Int} (hp : -1000 ≤ p ∧ p ≤ 1000) (hq : -1000 ≤ q ∧ q ≤ 1000) {w : List Int} (hl : w.length ≤ 8) (hm : ∀ e ∈ w, 0 ≤ e ∧ e < a 112) : -1000000 ≤ lnW a p q w ∧ lnW a p q w ≤ 1000000 := by
  have h1 := esum_w hg hl hm
  have h2 := esum_s hg hl hm
  have h3 := mul_r hq (show -792 ≤ esum a 2 w ∧ esum a 2 w ≤ 792 by omega)
  have h4 := mul_r hp (show -72 ≤ esum a 3 w ∧ esum a 3 w ≤ 72 by omega)
  unfold lnW
  omega
theorem m_isUnbounded (l : Launch) (E : zE) {ν : zM} {m0 : Nat} {ad : Nat → Nat} {s : Nat → Int} {A : Nat → Int → Int} (hD : mD m0 ad) (hg : gV (A 0)) {f t p q : Int} (hf : 0 ≤ f ∧ f ≤ 7) (ht : 0 ≤ t ∧ t ≤ 7) (hp : -1000 ≤ p ∧ p ≤ 1000) (hq : -1000 ≤ q ∧ q ≤ 1000) : Met l yX1_isUnbounded (ws_ yX1_isUnbounded cX1_isUnbounded 9 (some .boolean)) (zR 5 0 0) (va_Pc [.ref m0, .int (zI f), .int (zI t), .long (zJ p), .long (zJ q)] (zPre E (mM E ν m0 ad s A))) (zQb E (fun r μ' => ∃ s' A', sag kcS s s' ∧ sag [17] A A' ∧ unbF (A 0) f t p q = r ∧ mM E ν m0 ad s' A' = μ')) 0 0 (zA E) := by
  refine zmet (cc := cX1_isUnbounded) [_, _, _, _, _, _, _, _, _] (by decide) (Nat.le_of_ble_eq_true rfl) rfl rfl ?_
  intro X hl hX hinit; subst hl
  have hX : zOK X _ cX1_isUnbounded RX1 (some .boolean) 9 := hX
  generalize hQ : MQ _ _ _ _ _ _ _ = Q
  have inner : ∀ (i : Int) (L : List (List Int)) (r : Bool) (s1 : Nat → Int) (A1 : Nat → Int → Int), 0 ≤ i → i < 8 → sag kcS s s1 → sag [17] A A1 → s1 20 = i → s1 21 = i → nxW (A 0) i i (lowT i) s1 A1 r L → (L.any (fun w => decide (lnW (A 0) p q w < 0)) = true → unbF (A 0) f t p q = true) → (L.any (fun w => decide (lnW (A 0) p q w < 0)) = false → ∀ s2 A2, sag kcS s s2 → sag [17] A A2 → ∀ y, zW X (zR 5 0 0) E (mM E ν m0 ad s2 A2) 0 0 Q 91 [some (.ref m0), some (.int (zI f)), some (.int (zI t)), some (.long (zJ p)), none, some (.long (zJ q)), none, some (.int (zI i)), y] []) → zW X (zR 5 0 0) E (mM E ν m0 ad s1 A1) 0 0 Q 53 [some (.ref m0), some (.int (zI f)), some (.int (zI t)), some (.long (zJ p)), none, some (.long (zJ q)), none, some (.int (zI i)), some (.int (zI (zb r)))] [] := by
    intro i L
    induction L with
    | nil =>
      intro r s1 A1 h0 h8 hs hA h20 h21 hn k1 k2
      rcases hn with ⟨rfl, -⟩ | ⟨-, p', L', h, -⟩
      · refine z_iload hX rfl dX1_isUnbounded_53 ?_
        refine z_if_eq_b hX dX1_isUnbounded_55 (tgt := 91) rfl (fun h_55 => ?_) (fun h_55 => ?_)
        · exact k2 rfl s1 A1 hs hA _
        · exact absurd h_55 (by decide)
      · cases h
    | cons w L ih =>
      intro r s1 A1 h0 h8 hs hA h20 h21 hn k1 k2
      rcases hn with ⟨-, h⟩ | ⟨rfl, p', L', h, hat⟩
      · cases h
      · obtain ⟨rfl, rfl⟩ : w = p' ∧ L = L' := by cases h; exact ⟨rfl, rfl⟩
        have a0 : A1 0 = A 0 := hA 0 (by decide)
        have hg1 : gV (A1 0) := by rw [a0]; exact hg
        obtain ⟨hx, hx18, hl, h1, hr, hm⟩ := hat
        have hm' : ∀ e ∈ w, 0 ≤ e ∧ e < A1 0 112 := by rw [a0]; exact hm
        have b1 := lnW_r hg hp hq hl hm
        have hat2 : atW (A1 0) i i (lowT i) (s1 18) (s1 19) (A1 17) w L := by
          rw [a0]
          exact ⟨hx, hx18, hl, h1, hr, hm⟩
        simp only [List.any_cons] at k1 k2
        unfold lnW at b1
        refine z_iload hX rfl dX1_isUnbounded_53 ?_
        refine z_if_eq_b hX dX1_isUnbounded_55 (tgt := 91) rfl (fun h_55 => ?_) (fun h_55 => ?_)
        · exact absurd h_55 (by decide)
        · refine z_lload hX rfl dX1_isUnbounded_58 ?_
          refine z_aload_n hX rfl (by first | rfl | exact va_rf_r _) dX1_isUnbounded_60 ?_
          refine z_iconst hX dX1_isUnbounded_61 ?_
          refine z_calll (z_runV hX (m_sum _ _ hD hg1 hx18 hl hr hm' (by omega)) (cwV 1 hX.ts (lw_V q1637 q1639 qs50 q71 q1640) rfl rfl rfl (by decide +kernel) (zroom (by decide) (by decide))) dX1_isUnbounded_62 mM_0 (ci := 1) rfl rfl rfl rfl (by first | exact Nat.le_of_ble_eq_true rfl | simp [va_rf_c, Value.category]) (zhf (by omega) (by omega))) (fun r_62 μ_62 h_62 => ?_)
          obtain ⟨rfl, rfl⟩ := h_62; rw [a0]
          refine z_lmul hX dX1_isUnbounded_65 ?_
          refine z_lload_n hX rfl dX1_isUnbounded_66 ?_
          refine z_aload_n hX rfl (by first | rfl | exact va_rf_r _) dX1_isUnbounded_67 ?_
          refine z_iconst hX dX1_isUnbounded_68 ?_
          refine z_calll (z_runV hX (m_sum _ _ hD hg1 hx18 hl hr hm' (by omega)) (cwV 1 hX.ts (lw_V q1637 q1639 qs50 q71 q1640) rfl rfl rfl (by decide +kernel) (zroom (by decide) (by decide))) dX1_isUnbounded_69 mM_0 (ci := 1) rfl rfl rfl rfl (by first | exact Nat.le_of_ble_eq_true rfl | simp [va_rf_c, Value.category]) (zhf (by omega) (by omega))) (fun r_69 μ_69 h_69 => ?_)
          obtain ⟨rfl, rfl⟩ := h_69; rw [a0]
          refine z_lmul hX dX1_isUnbounded_72 ?_
          refine z_ladd hX dX1_isUnbounded_73 ?_
          refine z_lconst hX (z := 0) (by decide) dX1_isUnbounded_74 ?_
          refine z_lcmp_ge hX (by omega) (by omega) dX1_isUnbounded_75 dX1_isUnbounded_76 (tgt := 81) rfl (fun h_75 => ?_) (fun h_75 => ?_)
          · have hno : decide (lnW (A 0) p q w < 0) = false := decide_eq_false (by unfold lnW; omega)
            rw [hno] at k1 k2
            refine z_aload_n hX rfl (by first | rfl | exact va_rf_r _) dX1_isUnbounded_81 ?_
            refine z_iconst hX dX1_isUnbounded_82 ?_
            refine z_callb (z_runV hX (m_go2 _ _ hD hg1 ⟨h0, h8⟩ ⟨h0, h8⟩ h20 h21 (lowT_u ⟨h0, h8⟩) hat2) (cwV 1 hX.ts (lw_V q1607 q1609 qs44 q71 q1610) rfl rfl rfl (by decide +kernel) (zroom (by decide) (by decide))) dX1_isUnbounded_83 mM_0 (ci := 1) rfl rfl rfl rfl (by first | exact Nat.le_of_ble_eq_true rfl | simp [va_rf_c, Value.category]) (zhf (by omega) (by omega))) (fun r_83 μ_83 h_83 => ?_)
            obtain ⟨s3, A3, h3, h4, h5, rfl⟩ := goQ_nx h_83
            refine z_istore hX (lv' := [_, _, _, _, _, _, _, _, _]) (Nat.le_of_ble_eq_true rfl) (by first | exact zpre_0 | exact zpre_n rfl | exact zpre_1 rfl rfl | exact zpre_1 rfl (va_rf_c _)) rfl dX1_isUnbounded_86 ?_
            refine z_goto hX (tgt := 53) dX1_isUnbounded_88 rfl ?_
            rw [a0] at h5
            exact ih _ s3 A3 h0 h8 (hs.tr h3 (by intro k hk; simp only [List.mem_cons, List.not_mem_nil, or_false, not_or] at hk ⊢; omega)) (hA.tr h4 (by intro k hk; simp only [List.mem_cons, List.not_mem_nil, or_false, not_or] at hk ⊢; omega)) (by rw [h3 20 (by decide)]; exact h20) (by rw [h3 21 (by decide)]; exact h21) h5 k1 k2
          · have hyes : decide (lnW (A 0) p q w < 0) = true := decide_eq_true (by unfold lnW; omega)
            rw [hyes] at k1
            refine z_iconst hX dX1_isUnbounded_79 ?_
            (try rw [← hQ])
            first | refine z_breturn hX true dX1_isUnbounded_80 (by omega) (by omega) ?_ | refine z_breturn hX false dX1_isUnbounded_80 (by omega) (by omega) ?_ | refine z_breturn hX _ dX1_isUnbounded_80 (by omega) (by omega) ?_
            exact ⟨s1, A1, hs, hA, k1 rfl, rfl⟩
  have outer : ∀ (n : Nat) (i : Int) (s1 : Nat → Int) (A1 : Nat → Int → Int), 0 ≤ i → i ≤ 8 → 8 < i + n → sag kcS s s1 → sag [17] A A1 → (er i 8).any (unbS (A 0) f t p q) = unbF (A 0) f t p q → ∀ y, zW X (zR 5 0 0) E (mM E ν m0 ad s1 A1) 0 0 Q 3 [some (.ref m0), some (.int (zI f)), some (.int (zI t)), some (.long (zJ p)), none, some (.long (zJ q)), none, some (.int (zI i)), y] [] := by
    intro n
    induction n with
    | zero => intros; exfalso; omega
    | succ n ih =>
      intro i s1 A1 h0 h1 hn hs hA he y
      refine zW.mask [true, true, true, true, true, true, true, true, false] (lv' := [_, _, _, _, _, _, _, _, none]) rfl ?_
      refine z_iload hX rfl dX1_isUnbounded_3 ?_
      refine z_bipush hX (by decide) dX1_isUnbounded_5 ?_
      refine z_icmp_ge hX (by omega) (by omega) dX1_isUnbounded_7 (tgt := 97) rfl (fun h_7 => ?_) (fun h_7 => ?_)
      · obtain rfl : i = 8 := by omega
        rw [er_nil (Int.le_refl _)] at he
        refine z_iconst hX dX1_isUnbounded_97 ?_
        (try rw [← hQ])
        first | refine z_breturn hX true dX1_isUnbounded_98 (by omega) (by omega) ?_ | refine z_breturn hX false dX1_isUnbounded_98 (by omega) (by omega) ?_ | refine z_breturn hX _ dX1_isUnbounded_98 (by omega) (by omega) ?_
        exact ⟨s1, A1, hs, hA, he.symm, rfl⟩
      · rw [er_cons (show i < 8 by omega), List.any_cons] at he
        have a0 : A1 0 = A 0 := hA 0 (by decide)
        have hgA : gV (A1 0) := by rw [a0]; exact hg
        refine z_aload_n hX rfl (by first | rfl | exact va_rf_r _) dX1_isUnbounded_10 ?_
        refine z_iload hX rfl dX1_isUnbounded_11 ?_
        refine z_iload hX rfl dX1_isUnbounded_13 ?_
        refine z_callv (z_runV hX (m_starts _ _ hD ⟨h0, by omega⟩ ⟨h0, by omega⟩) (cwV 2 hX.ts (lw_V q1603 q1605 qs43 q71 q1606) rfl rfl rfl (by decide +kernel) (zroom (by decide) (by decide))) dX1_isUnbounded_15 mM_0 (ci := 1) rfl rfl rfl rfl (by first | exact Nat.le_of_ble_eq_true rfl | simp [va_rf_c, Value.category]) (zhf (by omega) (by omega))) (fun μ_15 h_15 => ?_)
        obtain ⟨t1, rfl, ht1⟩ := h_15; rw [gm_low] at ht1; generalize hs4 : zg (zg (zg (zg s1 18 0) 20 i) 21 i) 19 t1 = s4
        have k1 : sag [18, 19, 20, 21] s1 s4 := by rw [← hs4]; exact (((sag.up (by simp)).up2 (by simp)).up2 (by simp)).up2 (by simp)
        have k18 : s4 18 = 0 := by rw [← hs4, zg_n (by decide), zg_n (by decide), zg_n (by decide), zg_s]
        have k20 : s4 20 = i := by rw [← hs4, zg_n (by decide), zg_n (by decide), zg_s]
        have k21 : s4 21 = i := by rw [← hs4, zg_n (by decide), zg_s]
        have k19 : gM (s4 19) (lowT i) := by rw [← hs4, zg_s]; exact ht1
        have next : ∀ s2 A2, sag kcS s s2 → sag [17] A A2 → unbS (A 0) f t p q i = false → ∀ y, zW X (zR 5 0 0) E (mM E ν m0 ad s2 A2) 0 0 Q 91 [some (.ref m0), some (.int (zI f)), some (.int (zI t)), some (.long (zJ p)), none, some (.long (zJ q)), none, some (.int (zI i)), y] [] := by
          intro s2 A2 g1 g2 hu y
          rw [hu, Bool.false_or] at he
          refine zW.mask [true, true, true, true, true, true, true, true, false] (lv' := [_, _, _, _, _, _, _, _, none]) rfl ?_
          refine z_iinc hX (lv' := [_, _, _, _, _, _, _, _, _]) rfl (Nat.le_of_ble_eq_true rfl) (by first | exact zpre_0 | exact zpre_n rfl | exact zpre_1 rfl rfl | exact zpre_1 rfl (va_rf_c _)) rfl dX1_isUnbounded_91 ?_
          refine z_goto hX (tgt := 3) dX1_isUnbounded_94 rfl ?_
          exact ih (i + 1) s2 A2 (by omega) (by omega) (by omega) g1 g2 he _
        have no50 : ∀ s2 A2, sag kcS s s2 → sag [17] A A2 → unbS (A 0) f t p q i = false → zW X (zR 5 0 0) E (mM E ν m0 ad s2 A2) 0 0 Q 50 [some (.ref m0), some (.int (zI f)), some (.int (zI t)), some (.long (zJ p)), none, some (.long (zJ q)), none, some (.int (zI i)), none] [] := by
          intro s2 A2 g1 g2 hu
          refine z_iconst hX dX1_isUnbounded_50 ?_
          refine z_istore hX (lv' := [_, _, _, _, _, _, _, _, _]) (Nat.le_of_ble_eq_true rfl) (by first | exact zpre_0 | exact zpre_n rfl | exact zpre_1 rfl rfl | exact zpre_1 rfl (va_rf_c _)) rfl dX1_isUnbounded_51 ?_
          refine z_iload hX rfl dX1_isUnbounded_53 ?_
          refine z_if_eq hX (by omega) dX1_isUnbounded_55 (tgt := 91) rfl (fun h_55 => ?_) (fun h_55 => ?_)
          · exact next s2 A2 g1 g2 hu _
          · exact absurd rfl h_55
        have hs4' : sag kcS s s4 := hs.tr k1 (by intro k hk; simp only [List.mem_cons, List.not_mem_nil, or_false, not_or] at hk ⊢; omega)
        refine z_aload_n hX rfl (by first | rfl | exact va_rf_r _) dX1_isUnbounded_18 ?_
        refine z_iload_n hX rfl dX1_isUnbounded_19 ?_
        refine z_iload hX rfl dX1_isUnbounded_20 ?_
        refine z_callb (z_runV hX (m_leads _ _ hD hgA hf (by omega)) (cwV 2 hX.ts (lw_V q1711 q1713 qs55 q71 q1714) rfl rfl rfl (by decide +kernel) (zroom (by decide) (by decide))) dX1_isUnbounded_22 mM_0 (ci := 1) rfl rfl rfl rfl (by first | exact Nat.le_of_ble_eq_true rfl | simp [va_rf_c, Value.category]) (zhf (by omega) (by omega))) (fun r_22 μ_22 h_22 => ?_)
        obtain ⟨rfl, rfl⟩ := h_22; rw [a0]
        refine z_if_eq_b hX dX1_isUnbounded_25 (tgt := 50) rfl (fun h_25 => ?_) (fun h_25 => ?_)
        · exact no50 s4 A1 hs4' hA (by rw [unbS, h_25]; rfl)
        · refine z_aload_n hX rfl (by first | rfl | exact va_rf_r _) dX1_isUnbounded_28 ?_
          refine z_iload hX rfl dX1_isUnbounded_29 ?_
          refine z_iload_n hX rfl dX1_isUnbounded_31 ?_
          refine z_callb (z_runV hX (m_leads _ _ hD hgA (by omega) ht) (cwV 2 hX.ts (lw_V q1711 q1713 qs55 q71 q1714) rfl rfl rfl (by decide +kernel) (zroom (by decide) (by decide))) dX1_isUnbounded_32 mM_0 (ci := 1) rfl rfl rfl rfl (by first | exact Nat.le_of_ble_eq_true rfl | simp [va_rf_c, Value.category]) (zhf (by omega) (by omega))) (fun r_32 μ_32 h_32 => ?_)
          obtain ⟨rfl, rfl⟩ := h_32; rw [a0]
          refine z_if_eq_b hX dX1_isUnbounded_35 (tgt := 50) rfl (fun h_35 => ?_) (fun h_35 => ?_)
          · exact no50 s4 A1 hs4' hA (by rw [unbS, h_25, h_35]; rfl)
          · refine z_aload_n hX rfl (by first | rfl | exact va_rf_r _) dX1_isUnbounded_38 ?_
            refine z_iconst hX dX1_isUnbounded_39 ?_
            refine z_callb (z_runV hX (m_go1 _ _ hD hgA ⟨h0, by omega⟩ ⟨h0, by omega⟩ k20 k21 (lowT_u ⟨h0, by omega⟩) k18 k19) (cwV 1 hX.ts (lw_V q1607 q1609 qs44 q71 q1610) rfl rfl rfl (by decide +kernel) (zroom (by decide) (by decide))) dX1_isUnbounded_40 mM_0 (ci := 1) rfl rfl rfl rfl (by first | exact Nat.le_of_ble_eq_true rfl | simp [va_rf_c, Value.category]) (zhf (by omega) (by omega))) (fun r_40 μ_40 h_40 => ?_)
            obtain ⟨s3, A3, h3, h4, h5, rfl⟩ := goQ_nx h_40; rw [a0] at h5
            refine z_if_eq_b hX dX1_isUnbounded_43 (tgt := 50) rfl (fun h_43 => ?_) (fun h_43 => ?_)
            · refine no50 s3 A3 (hs4'.tr h3 (by intro k hk; simp only [List.mem_cons, List.not_mem_nil, or_false, not_or] at hk ⊢; omega)) (hA.tr h4 (by intro k hk; simp only [List.mem_cons, List.not_mem_nil, or_false, not_or] at hk ⊢; omega)) ?_
              subst h_43
              rcases h5 with ⟨-, h6⟩ | ⟨h6, -⟩
              · rw [unbS, h6, List.any_nil, Bool.and_false]
              · cases h6
            · subst h_43
              refine z_iconst hX dX1_isUnbounded_46 ?_
              refine z_goto hX (tgt := 51) dX1_isUnbounded_47 rfl ?_
              refine z_istore hX (lv' := [_, _, _, _, _, _, _, _, _]) (Nat.le_of_ble_eq_true rfl) (by first | exact zpre_0 | exact zpre_n rfl | exact zpre_1 rfl rfl | exact zpre_1 rfl (va_rf_c _)) rfl dX1_isUnbounded_51 ?_
              refine inner i _ true s3 A3 h0 (by omega) (hs4'.tr h3 (by intro k hk; simp only [List.mem_cons, List.not_mem_nil, or_false, not_or] at hk ⊢; omega)) (hA.tr h4 (by intro k hk; simp only [List.mem_cons, List.not_mem_nil, or_false, not_or] at hk ⊢; omega)) (by rw [h3 20 (by decide)]; exact k20) (by rw [h3 21 (by decide)]; exact k21) h5 (fun q => ?_) (fun q s2 A2 g1 g2 y => ?_)
              · rw [← he, unbS, h_25, h_35, q]
                rfl
              · exact next s2 A2 g1 g2 (by rw [unbS, h_25, h_35, q]; rfl) _
  refine z_iconst hX dX1_isUnbounded_0 ?_
  refine z_istore hX (lv' := [_, _, _, _, _, _, _, _, _]) (Nat.le_of_ble_eq_true rfl) (by first | exact zpre_0 | exact zpre_n rfl | exact zpre_1 rfl rfl | exact zpre_1 rfl (va_rf_c _)) rfl dX1_isUnbounded_1 ?_
  exact outer 9 0 s A (by omega) (by omega) (by omega) sag.rf sag.rf rfl none
