/-! MODEL 17: pairs, counts -/
set_option maxRecDepth 100000
def prE (a : Int → Int) (u : Int) (M : Nat) (e : Int) : Nat := M ||| (if a (7 * e) = u then rcA a (a (7 * e + 1)) else 0)
/-- the nodes that u leads to over one edge at least -/
def prW (a : Int → Int) (u : Int) : Nat := (er 0 (a 112)).foldl (prE a u) 0
def bitsN (W : Nat) (vs : List Int) : Int := (vs.map (fun v => zb (W.testBit v.toNat))).sum
def prN (a : Int → Int) : Int := ((er 0 8).map (fun u => bitsN (prW a u) (er 0 8))).sum
theorem bitsN_r (W : Nat) : ∀ vs, 0 ≤ bitsN W vs ∧ bitsN W vs ≤ vs.length
  | [] => by simp [bitsN]
  | v :: vs => by
    have h := bitsN_r W vs
    have h2 := zb_01 (W.testBit v.toNat)
    unfold bitsN at h ⊢
    rw [List.map_cons, List.sum_cons, List.length_cons]
    omega
theorem prE_lt {a : Int → Int} {u e : Int} {M : Nat} (hg : gV a) (he : 0 ≤ e ∧ e < a 112) (hM : M < 256) : prE a u M e < 256 := by
  unfold prE
  refine Nat.or_lt_two_pow (n := 8) hM ?_
  split
  · exact rcA_lt (gV_to hg) (gV_to hg e he.1 he.2)
  · decide
theorem m_pairs (l : Launch) (E : zE) {ν : zM} {m0 : Nat} {ad : Nat → Nat} {s : Nat → Int} {A : Nat → Int → Int} (hD : mD m0 ad) (hg : gV (A 0)) : Met l yX1_pairs (ws_ yX1_pairs cX1_pairs 5 (some .int)) (zR 3 0 0) (va_Pc [.ref m0] (zPre E (mM E ν m0 ad s A))) (zQi E (fun r μ' => mM E ν m0 ad s A = μ' ∧ prN (A 0) = r)) 0 0 (zA E) := by
  have hn := hg.1
  refine zmet (cc := cX1_pairs) [_, _, _, _, _] (by decide) (Nat.le_of_ble_eq_true rfl) rfl rfl ?_
  intro X hl hX hinit; subst hl
  have hX : zOK X _ cX1_pairs RX1 (some .int) 5 := hX
  generalize hQ : MQ _ _ _ _ _ _ _ = Q
  have bits : ∀ (k : Nat) (c u v : Int) (W : Nat), 0 ≤ v → v ≤ 8 → 8 < v + k → W < 256 → (∀ y, zW X (zR 3 0 0) E (mM E ν m0 ad s A) 0 0 Q 87 [some (.ref m0), some (.int (zI (c + bitsN W (er v 8)))), some (.int (zI u)), some (.int (zI (W : Int))), y] []) → zW X (zR 3 0 0) E (mM E ν m0 ad s A) 0 0 Q 65 [some (.ref m0), some (.int (zI c)), some (.int (zI u)), some (.int (zI (W : Int))), some (.int (zI v))] [] := by
    intro k
    induction k with
    | zero => intros; exfalso; omega
    | succ k ih =>
      intro c u v W h0 h8 hk hW kk
      refine z_iload hX rfl dX1_pairs_65 ?_
      refine z_bipush hX (by decide) dX1_pairs_67 ?_
      refine z_icmp_ge hX (by omega) (by omega) dX1_pairs_69 (tgt := 87) rfl (fun h_69 => ?_) (fun h_69 => ?_)
      · obtain rfl : v = 8 := by omega
        have h := kk (some (.int (zI 8)))
        rw [er_nil (Int.le_refl _), show bitsN W [] = 0 from rfl, Int.add_zero] at h
        exact h
      · rw [er_cons (show v < 8 by omega)] at kk
        obtain ⟨w, rfl⟩ : ∃ w : Nat, v = w := ⟨v.toNat, by omega⟩
        have hbt := bit_div W w
        have hz : bitsN W ((w : Int) :: er (w + 1) 8) = ((W / 2 ^ w % 2 : Nat) : Int) + bitsN W (er (w + 1) 8) := by
          unfold bitsN
          rw [List.map_cons, List.sum_cons, Int.toNat_natCast, hbt]
          congr 1
          by_cases q : W / 2 ^ w % 2 = 1
          · rw [q]; rfl
          · rw [show W / 2 ^ w % 2 = 0 by omega]; rfl
        rw [hz] at kk
        have hsh := zshr (M := W) (v := w) (by omega) (by omega)
        have h2 : W / 2 ^ w % 2 < 2 := Nat.mod_lt _ (by decide)
        refine z_iload_n hX rfl dX1_pairs_72 ?_
        refine z_iload_n hX rfl dX1_pairs_73 ?_
        refine z_iload hX rfl dX1_pairs_74 ?_
        refine z_ishr hX (z := ((W/2^w:Nat):Int)) hsh dX1_pairs_76 ?_
        refine z_iconst hX dX1_pairs_77 ?_
        refine z_iand hX (z := ((W/2^w%2:Nat):Int)) (zand1 _) dX1_pairs_78 ?_
        refine z_iadd hX dX1_pairs_79 ?_
        refine z_istore_n hX (lv' := [_, _, _, _, _]) (Nat.le_of_ble_eq_true rfl) (by first | exact zpre_0 | exact zpre_n rfl | exact zpre_1 rfl rfl | exact zpre_1 rfl (va_rf_c _)) rfl dX1_pairs_80 ?_
        refine z_iinc hX (lv' := [_, _, _, _, _]) rfl (Nat.le_of_ble_eq_true rfl) (by first | exact zpre_0 | exact zpre_n rfl | exact zpre_1 rfl rfl | exact zpre_1 rfl (va_rf_c _)) rfl dX1_pairs_81 ?_
        refine z_goto hX (tgt := 65) dX1_pairs_84 rfl ?_
        exact ih _ u (w + 1) W (by omega) (by omega) (by omega) hW (by simpa only [Int.add_assoc] using kk)
  have edges : ∀ (k : Nat) (c u e : Int) (W : Nat), 0 ≤ e → e ≤ A 0 112 → A 0 112 < e + k → W < 256 → 0 ≤ u → u ≤ 7 → (er e (A 0 112)).foldl (prE (A 0) u) W = prW (A 0) u → (∀ y z, zW X (zR 3 0 0) E (mM E ν m0 ad s A) 0 0 Q 87 [some (.ref m0), some (.int (zI (c + bitsN (prW (A 0) u) (er 0 8)))), some (.int (zI u)), y, z] []) → zW X (zR 3 0 0) E (mM E ν m0 ad s A) 0 0 Q 15 [some (.ref m0), some (.int (zI c)), some (.int (zI u)), some (.int (zI (W : Int))), some (.int (zI e))] [] := by
    intro k
    induction k with
    | zero => intros; exfalso; omega
    | succ k ih =>
      intro c u e W h0 h8 hk hW hu0 hu7 he kk
      refine z_iload hX rfl dX1_pairs_15 ?_
      refine z_aload_n hX rfl (by first | rfl | exact va_rf_r _) dX1_pairs_17 ?_
      refine zm_get hX 0 (by decide) q1370 dX1_pairs_18 rfl rfl ?_
      refine z_bipush hX (by decide) dX1_pairs_21 ?_
      refine zm_iaload hX hD 0 (by decide) (by decide) 113 rfl dX1_pairs_23 (by omega) ?_
      refine z_icmp_ge hX (by omega) (by omega) dX1_pairs_24 (tgt := 62) rfl (fun h_24 => ?_) (fun h_24 => ?_)
      · rw [er_nil (by omega), List.foldl_nil] at he
        subst he
        refine z_iconst hX dX1_pairs_62 ?_
        refine z_istore hX (lv' := [_, _, _, _, _]) (Nat.le_of_ble_eq_true rfl) (by first | exact zpre_0 | exact zpre_n rfl | exact zpre_1 rfl rfl | exact zpre_1 rfl (va_rf_c _)) rfl dX1_pairs_63 ?_
        exact bits 9 c u 0 (prW (A 0) u) (by omega) (by omega) (by omega) hW (fun y => kk _ _)
      · have hv := hg.2 e h0 (by omega)
        unfold eV at hv
        have nt := gV_to hg e h0 (by omega)
        rw [er_cons (show e < A 0 112 by omega), List.foldl_cons] at he
        have hlt := prE_lt (u := u) hg (e := e) ⟨h0, by omega⟩ hW
        refine z_iload_n hX rfl dX1_pairs_27 ?_
        refine z_aload_n hX rfl (by first | rfl | exact va_rf_r _) dX1_pairs_28 ?_
        refine z_iload hX rfl dX1_pairs_29 ?_
        refine z_iconst hX dX1_pairs_31 ?_
        refine z_calli (z_runV hX (m_of0 _ _ hD (by omega)) (cwV 2 hX.ts (lw_V q1529 q1531 qs34 q71 q1532) rfl rfl rfl (by decide +kernel) (zroom (by decide) (by decide))) dX1_pairs_32 mM_0 (ci := 1) rfl rfl rfl rfl (by first | exact Nat.le_of_ble_eq_true rfl | simp [va_rf_c, Value.category]) (zhf (by omega) (by omega))) (fun r_32 μ_32 h_32 => ?_)
        obtain ⟨rfl, rfl⟩ := h_32
        refine z_iload_n hX rfl dX1_pairs_35 ?_
        refine z_icmp_ne hX (by omega) (by omega) dX1_pairs_36 (tgt := 53) rfl (fun h_36 => ?_) (fun h_36 => ?_)
        · rw [prE, if_neg h_36] at he hlt
          refine z_iconst hX dX1_pairs_53 ?_
          refine z_ior hX (z := ((W|||0:Nat):Int)) (zor _ 0) dX1_pairs_54 ?_
          refine z_istore_n hX (lv' := [_, _, _, _, _]) (Nat.le_of_ble_eq_true rfl) (by first | exact zpre_0 | exact zpre_n rfl | exact zpre_1 rfl rfl | exact zpre_1 rfl (va_rf_c _)) rfl dX1_pairs_55 ?_
          refine z_iinc hX (lv' := [_, _, _, _, _]) rfl (Nat.le_of_ble_eq_true rfl) (by first | exact zpre_0 | exact zpre_n rfl | exact zpre_1 rfl rfl | exact zpre_1 rfl (va_rf_c _)) rfl dX1_pairs_56 ?_
          refine z_goto hX (tgt := 15) dX1_pairs_59 rfl ?_
          exact ih c u (e + 1) _ (by omega) (by omega) (by omega) hlt hu0 hu7 he kk
        · rw [prE, if_pos h_36] at he hlt
          refine z_aload_n hX rfl (by first | rfl | exact va_rf_r _) dX1_pairs_39 ?_
          refine z_aload_n hX rfl (by first | rfl | exact va_rf_r _) dX1_pairs_40 ?_
          refine z_iload hX rfl dX1_pairs_41 ?_
          refine z_iconst hX dX1_pairs_43 ?_
          refine z_calli (z_runV hX (m_of _ _ hD (by omega)) (cwV 2 hX.ts (lw_V q1529 q1531 qs34 q71 q1532) rfl rfl rfl (by decide +kernel) (zroom (by decide) (by decide))) dX1_pairs_44 mM_0 (ci := 1) rfl rfl rfl rfl (by first | exact Nat.le_of_ble_eq_true rfl | simp [va_rf_c, Value.category]) (zhf (by omega) (by omega))) (fun r_44 μ_44 h_44 => ?_)
          obtain ⟨rfl, rfl⟩ := h_44
          refine z_calli (z_runV hX (m_reached _ _ hD hg nt) (cwV 1 hX.ts (lw_V q1715 q1717 qs56 q71 q1718) rfl rfl rfl (by decide +kernel) (zroom (by decide) (by decide))) dX1_pairs_47 mM_0 (ci := 1) rfl rfl rfl rfl (by first | exact Nat.le_of_ble_eq_true rfl | simp [va_rf_c, Value.category]) (zhf (by omega) (by omega))) (fun r_47 μ_47 h_47 => ?_)
          obtain ⟨rfl, rfl⟩ := h_47
          refine z_goto hX (tgt := 54) dX1_pairs_50 rfl ?_
          refine z_ior hX (z := ((W|||rcA (A 0) (A 0 (7*e+1)):Nat):Int)) (zor _ _) dX1_pairs_54 ?_
          refine z_istore_n hX (lv' := [_, _, _, _, _]) (Nat.le_of_ble_eq_true rfl) (by first | exact zpre_0 | exact zpre_n rfl | exact zpre_1 rfl rfl | exact zpre_1 rfl (va_rf_c _)) rfl dX1_pairs_55 ?_
          refine z_iinc hX (lv' := [_, _, _, _, _]) rfl (Nat.le_of_ble_eq_true rfl) (by first | exact zpre_0 | exact zpre_n rfl | exact zpre_1 rfl rfl | exact zpre_1 rfl (va_rf_c _)) rfl dX1_pairs_56 ?_
          refine z_goto hX (tgt := 15) dX1_pairs_59 rfl ?_
          exact ih c u (e + 1) _ (by omega) (by omega) (by omega) hlt hu0 hu7 he kk
  have outer : ∀ (k : Nat) (c u : Int), 0 ≤ u → u ≤ 8 → 8 < u + k → c + ((er u 8).map (fun u => bitsN (prW (A 0) u) (er 0 8))).sum = prN (A 0) → ∀ y z, zW X (zR 3 0 0) E (mM E ν m0 ad s A) 0 0 Q 4 [some (.ref m0), some (.int (zI c)), some (.int (zI u)), y, z] [] := by
    intro k
    induction k with
    | zero => intros; exfalso; omega
    | succ k ih =>
      intro c u h0 h8 hk he y z
      refine zW.mask [true, true, true, false, false] (lv' := [_, _, _, none, none]) rfl ?_
      refine z_iload_n hX rfl dX1_pairs_4 ?_
      refine z_bipush hX (by decide) dX1_pairs_5 ?_
      refine z_icmp_ge hX (by omega) (by omega) dX1_pairs_7 (tgt := 93) rfl (fun h_7 => ?_) (fun h_7 => ?_)
      · rw [er_nil (k := u) (n := 8) (by omega), List.map_nil, List.sum_nil, Int.add_zero] at he
        refine z_iload_n hX rfl dX1_pairs_93 ?_
        (try rw [← hQ])
        refine z_ireturn hX dX1_pairs_94 (by omega) (by omega) ?_
        exact ⟨rfl, he.symm⟩
      · rw [er_cons (show u < 8 by omega), List.map_cons, List.sum_cons, ← Int.add_assoc] at he
        refine z_iconst hX dX1_pairs_10 ?_
        refine z_istore_n hX (lv' := [_, _, _, _, _]) (Nat.le_of_ble_eq_true rfl) (by first | exact zpre_0 | exact zpre_n rfl | exact zpre_1 rfl rfl | exact zpre_1 rfl (va_rf_c _)) rfl dX1_pairs_11 ?_
        refine z_iconst hX dX1_pairs_12 ?_
        refine z_istore hX (lv' := [_, _, _, _, _]) (Nat.le_of_ble_eq_true rfl) (by first | exact zpre_0 | exact zpre_n rfl | exact zpre_1 rfl rfl | exact zpre_1 rfl (va_rf_c _)) rfl dX1_pairs_13 ?_
        refine edges (A 0 112 + 1).toNat c u 0 0 (by omega) (by omega) (by omega) (by omega) h0 (by omega) rfl (fun y z => ?_)
        refine zW.mask [true, true, true, false, false] (lv' := [_, _, _, none, none]) rfl ?_
        refine z_iinc hX (lv' := [_, _, _, _, _]) rfl (Nat.le_of_ble_eq_true rfl) (by first | exact zpre_0 | exact zpre_n rfl | exact zpre_1 rfl rfl | exact zpre_1 rfl (va_rf_c _)) rfl dX1_pairs_87 ?_
        refine z_goto hX (tgt := 4) dX1_pairs_90 rfl ?_
        exact ih _ (u + 1) (by omega) (by omega) (by omega) he _ _
  refine z_iconst hX dX1_pairs_0 ?_
  refine z_istore_n hX (lv' := [_, _, _, _, _]) (Nat.le_of_ble_eq_true rfl) (by first | exact zpre_0 | exact zpre_n rfl | exact zpre_1 rfl rfl | exact zpre_1 rfl (va_rf_c _)) rfl dX1_pairs_1 ?_
  refine z_iconst hX dX1_pairs_2 ?_
  refine z_istore_n hX (lv' := [_, _, _, _, _]) (Nat.le_of_ble_eq_true rfl) (by first | exact zpre_0 | exact zpre_n rfl | exact zpre_1 rfl rfl | exact zpre_1 rfl (va_rf_c _)) rfl dX1_pairs_3 ?_
  exact outer 9 0 0 (by omega) (by omega) (by omega) (by rw [Int.zero_add]; rfl) _ _
/-- the counts -/
def cnF (s : Nat → Int) (A : Nat → Int → Int) (k : Int) : Int :=
  if k = 0 then A 0 112 else if k = 1 then s 2 else if k = 2 then s 5 else if k = 3 then esum (A 0) 2 (er 0 (A 0 112)) else if k = 4 then prN (A 0) else if k = 5 then s 11 else gBAD
theorem m_count (l : Launch) (E : zE) {ν : zM} {m0 : Nat} {ad : Nat → Nat} {s : Nat → Int} {A : Nat → Int → Int} (hD : mD m0 ad) (hV : mV s A) {k : Int} (hk : iR k) : Met l yX1_count (ws_ yX1_count cX1_count 2 (some .int)) (zR 4 0 0) (va_Pc [.ref m0, .int (zI k)] (zPre E (mM E ν m0 ad s A))) (zQi E (fun r μ' => mM E ν m0 ad s A = μ' ∧ cnF s A k = r)) 0 0 (zA E) := by
  have hg : gV (A 0) := hV.1
  refine zmet (cc := cX1_count) [_, _] (by decide) (Nat.le_of_ble_eq_true rfl) rfl rfl ?_
  intro X hl hX hinit; subst hl
  have hX : zOK X _ cX1_count RX1 (some .int) 2 := hX
  generalize hQ : MQ _ _ _ _ _ _ _ = Q
  refine z_iload_n hX rfl dX1_count_0 ?_
  by_cases h0 : k = 0
  · subst h0
    refine z_tableIn hX (off := 39) (tgt := 40) (by omega) (by omega) (by omega) (by rfl) dX1_count_1 rfl ?_
    refine z_aload_n hX rfl (by first | rfl | exact va_rf_r _) dX1_count_40 ?_
    refine zm_get hX 0 (by decide) q1370 dX1_count_41 rfl rfl ?_
    refine z_bipush hX (by decide) dX1_count_44 ?_
    refine zm_iaload hX hD 0 (by decide) (by decide) 113 rfl dX1_count_46 (by omega) ?_
    (try rw [← hQ])
    refine z_ireturn hX dX1_count_47 (by omega) (by omega) ?_
    exact ⟨rfl, by rw [cnF, if_pos rfl]⟩
  by_cases h1 : k = 1
  · subst h1
    refine z_tableIn hX (off := 47) (tgt := 48) (by omega) (by omega) (by omega) (by rfl) dX1_count_1 rfl ?_
    refine z_aload_n hX rfl (by first | rfl | exact va_rf_r _) dX1_count_48 ?_
    refine zm_get hX 2 (by decide) q1372 dX1_count_49 rfl rfl ?_
    (try rw [← hQ])
    refine z_ireturn hX dX1_count_52 (by omega) (by omega) ?_
    exact ⟨rfl, by rw [cnF, if_neg (by decide), if_pos rfl]⟩
  by_cases h2 : k = 2
  · subst h2
    refine z_tableIn hX (off := 52) (tgt := 53) (by omega) (by omega) (by omega) (by rfl) dX1_count_1 rfl ?_
    refine z_aload_n hX rfl (by first | rfl | exact va_rf_r _) dX1_count_53 ?_
    refine zm_get hX 5 (by decide) q1375 dX1_count_54 rfl rfl ?_
    (try rw [← hQ])
    refine z_ireturn hX dX1_count_57 (by omega) (by omega) ?_
    exact ⟨rfl, by rw [cnF, if_neg (by decide), if_neg (by decide), if_pos rfl]⟩
  by_cases h3 : k = 3
  · subst h3
    refine z_tableIn hX (off := 57) (tgt := 58) (by omega) (by omega) (by omega) (by rfl) dX1_count_1 rfl ?_
    refine z_aload_n hX rfl (by first | rfl | exact va_rf_r _) dX1_count_58 ?_
    refine z_calli (z_runV hX (m_weights _ _ hD hV) (cwV 0 hX.ts (lw_V q1761 q1763 qs61 q71 q1764) rfl rfl rfl (by decide +kernel) (zroom (by decide) (by decide))) dX1_count_59 mM_0 (ci := 1) rfl rfl rfl rfl (by first | exact Nat.le_of_ble_eq_true rfl | simp [va_rf_c, Value.category]) (zhf (by omega) (by omega))) (fun r_59 μ_59 h_59 => ?_)
    obtain ⟨rfl, rfl⟩ := h_59
    (try rw [← hQ])
    refine z_ireturn hX dX1_count_62 (by omega) (by omega) ?_
    exact ⟨rfl, by rw [cnF, if_neg (by decide), if_neg (by decide), if_neg (by decide), if_pos rfl]⟩
  by_cases h4 : k = 4
  · subst h4
    refine z_tableIn hX (off := 62) (tgt := 63) (by omega) (by omega) (by omega) (by rfl) dX1_count_1 rfl ?_
    refine z_aload_n hX rfl (by first | rfl | exact va_rf_r _) dX1_count_63 ?_
    refine z_calli (z_runV hX (m_pairs _ _ hD hg) (cwV 0 hX.ts (lw_V q1765 q1767 qs62 q71 q1768) rfl rfl rfl (by decide +kernel) (zroom (by decide) (by decide))) dX1_count_64 mM_0 (ci := 1) rfl rfl rfl rfl (by first | exact Nat.le_of_ble_eq_true rfl | simp [va_rf_c, Value.category]) (zhf (by omega) (by omega))) (fun r_64 μ_64 h_64 => ?_)
    obtain ⟨rfl, rfl⟩ := h_64
    (try rw [← hQ])
    refine z_ireturn hX dX1_count_67 (by omega) (by omega) ?_
    exact ⟨rfl, by rw [cnF, if_neg (by decide), if_neg (by decide), if_neg (by decide), if_neg (by decide), if_pos rfl]⟩
  by_cases h5 : k = 5
  · subst h5
    refine z_tableIn hX (off := 67) (tgt := 68) (by omega) (by omega) (by omega) (by rfl) dX1_count_1 rfl ?_
    refine z_aload_n hX rfl (by first | rfl | exact va_rf_r _) dX1_count_68 ?_
    refine zm_get hX 11 (by decide) q1381 dX1_count_69 rfl rfl ?_
    (try rw [← hQ])
    refine z_ireturn hX dX1_count_72 (by omega) (by omega) ?_
    exact ⟨rfl, by rw [cnF, if_neg (by decide), if_neg (by decide), if_neg (by decide), if_neg (by decide), if_neg (by decide), if_pos rfl]⟩
  · refine z_tableOut hX (tgt := 73) (by omega) (by omega) dX1_count_1 rfl ?_
    refine z_ldc hX (z := -1000002) q1511 (by decide) dX1_count_73 ?_
    (try rw [← hQ])
    refine z_ireturn hX dX1_count_75 (by omega) (by omega) ?_
    exact ⟨rfl, by rw [cnF, if_neg h0, if_neg h1, if_neg h2, if_neg h3, if_neg h4, if_neg h5]; rfl⟩
