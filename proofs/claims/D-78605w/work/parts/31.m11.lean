/-! MODEL 11: potentials -/
set_option maxRecDepth 100000
theorem gV_n {a : Int → Int} (hg : gV a) : nV a := fun e h0 h1 => by
  have h := hg.2 e h0 h1
  unfold eV at h
  omega
def bd8 (f : Int → Int) (M : Int) : Prop := ∀ v, 0 ≤ v → v ≤ 7 → -M ≤ f v ∧ f v ≤ M
theorem m_shortens (l : Launch) (E : zE) {ν : zM} {m0 : Nat} {ad : Nat → Nat} {s : Nat → Int} {A : Nat → Int → Int} (hD : mD m0 ad) (hg : gV (A 0)) {u m : Int} (hu : 0 ≤ u ∧ u ≤ 1000) (hm : -1000 ≤ m ∧ m ≤ 1000) (hb : bd8 (A 26) 1000) {c : Int → Int} (hc : ∀ e, c e = u * A 0 (7 * e + 2) + m) : Met l yX1_shortens (ws_ yX1_shortens cX1_shortens 15 (some .boolean)) (zR 2 0 0) (va_Pc [.ref m0, .long (zJ u), .long (zJ 0), .long (zJ m), .int (zI 100)] (zPre E (mM E ν m0 ad s A))) (zQb E (fun r μ' => (rxN (A 0) c 100 (A 26)).2 = r ∧ mM E ν m0 ad s (zg A 26 (rxN (A 0) c 100 (A 26)).1) = μ')) 0 0 (zA E) := by
  have hn := hg.1
  generalize hT : rxN (A 0) c 100 (A 26) = T
  refine zmet (cc := cX1_shortens) [_, _, _, _, _, _, _, _, _, _, _, _, _, _, _] (by decide) (Nat.le_of_ble_eq_true rfl) rfl rfl ?_
  intro X hl hX hinit; subst hl
  have hX : zOK X _ cX1_shortens RX1 (some .boolean) 15 := hX
  generalize hQ : MQ _ _ _ _ _ _ _ = Q
  have inner : ∀ (k n : Nat) (i j : Int) (f : Int → Int) (b : Bool), 0 ≤ j → j ≤ A 0 112 → A 0 112 < j + n → i = 100 - k → 1 ≤ k → k ≤ 100 → bd8 f (1000 + 200000 * (16 * (100 - k) + j)) → (∀ f', bd8 f' (1000 + 200000 * (16 * (100 - k) + 16)) → rxL (A 0) c (f, b) (er j (A 0 112)) = (f', true) → ∀ y1 y2 y3, zW X (zR 2 0 0) E (mM E ν m0 ad s (zg A 26 f')) 0 0 Q 128 [some (.ref m0), some (.long (zJ u)), none, some (.long (zJ 0)), none, some (.long (zJ m)), none, some (.int (zI 100)), some (.int (zI i)), y1, y2, y3, none, none, none] []) → (∀ f', rxL (A 0) c (f, b) (er j (A 0 112)) = (f', false) → ∀ y1 y2 y3, zW X (zR 2 0 0) E (mM E ν m0 ad s (zg A 26 f')) 0 0 Q 126 [some (.ref m0), some (.long (zJ u)), none, some (.long (zJ 0)), none, some (.long (zJ m)), none, some (.int (zI 100)), some (.int (zI i)), y1, y2, y3, none, none, none] []) → ∀ y1 y2, zW X (zR 2 0 0) E (mM E ν m0 ad s (zg A 26 f)) 0 0 Q 16 [some (.ref m0), some (.long (zJ u)), none, some (.long (zJ 0)), none, some (.long (zJ m)), none, some (.int (zI 100)), some (.int (zI i)), some (.int (zI (zb b))), some (.int (zI j)), y1, none, y2, none] [] := by
    intro k n
    induction n with
    | zero => intros; exfalso; omega
    | succ n ih =>
      intro i j f b h0 h1 hn2 hi hk1 hk2 hf k1 k2 y1 y2
      have a0 : zg A 26 f 0 = A 0 := zg_n (by decide)
      have a026 : zg A 26 f 26 = f := zg_s _ _ _
      have a112 := congrFun a0 112
      refine zW.mask [true, true, true, true, true, true, true, true, true, true, true, false, false, false, false] (lv' := [_, _, _, _, _, _, _, _, _, _, _, none, none, none, none]) rfl ?_
      refine z_iload hX rfl dX1_shortens_16 ?_
      refine z_aload_n hX rfl (by first | rfl | exact va_rf_r _) dX1_shortens_18 ?_
      refine zm_get hX 0 (by decide) q1370 dX1_shortens_19 rfl rfl ?_
      refine z_bipush hX (by decide) dX1_shortens_22 ?_
      refine zm_iaload hX hD 0 (by decide) (by decide) 113 rfl dX1_shortens_24 (by omega) ?_
      refine z_icmp_ge hX (by omega) (by omega) dX1_shortens_25 (tgt := 121) rfl (fun h_25 => ?_) (fun h_25 => ?_)
      · obtain rfl : j = A 0 112 := by omega
        rw [er_nil (Int.le_refl _)] at k1 k2
        refine z_iload hX rfl dX1_shortens_121 ?_
        refine z_if_ne_b hX dX1_shortens_123 (tgt := 128) rfl (fun h_123 => ?_) (fun h_123 => ?_)
        · subst h_123
          refine k1 f ?_ rfl _ _ _
          intro v hv0 hv7
          have := hf v hv0 hv7
          omega
        · subst h_123
          exact k2 f rfl _ _ _
      · have hv := hg.2 j h0 (by omega)
        unfold eV at hv
        have f1 := hf (A 0 (7 * j)) (by omega) (by omega)
        have f2 := hf (A 0 (7 * j + 1)) (by omega) (by omega)
        have m1 := mul_r (M := 1000) (N := 99) (show -1000 ≤ u ∧ u ≤ 1000 by omega) hv.2.2.1
        have hcj := hc j
        rw [er_cons (show j < A 0 112 by omega)] at k1 k2
        simp only [rxL, List.foldl_cons] at k1 k2
        have next : ∀ (f' : Int → Int) (b' : Bool), rxE (A 0) c (f, b) j = (f', b') → bd8 f' (1000 + 200000 * (16 * (100 - k) + (j + 1))) → ∀ y1 y2, zW X (zR 2 0 0) E (mM E ν m0 ad s (zg A 26 f')) 0 0 Q 115 [some (.ref m0), some (.long (zJ u)), none, some (.long (zJ 0)), none, some (.long (zJ m)), none, some (.int (zI 100)), some (.int (zI i)), some (.int (zI (zb b'))), some (.int (zI j)), y1, none, y2, none] [] := by
          intro f' b' he hf' y1 y2
          rw [he] at k1 k2
          refine zW.mask [true, true, true, true, true, true, true, true, true, true, true, false, false, false, false] (lv' := [_, _, _, _, _, _, _, _, _, _, _, none, none, none, none]) rfl ?_
          refine z_iinc hX (lv' := [_, _, _, _, _, _, _, _, _, _, _, _, _, _, _]) rfl (Nat.le_of_ble_eq_true rfl) (by first | exact zpre_0 | exact zpre_n rfl | exact zpre_1 rfl rfl | exact zpre_1 rfl (va_rf_c _)) rfl dX1_shortens_115 ?_
          refine z_goto hX (tgt := 16) dX1_shortens_118 rfl ?_
          exact ih i (j + 1) f' b' (by omega) (by omega) (by omega) hi hk1 hk2 hf' k1 k2 _ _
        have same : ¬ (f (A 0 (7 * j)) + c j < f (A 0 (7 * j + 1))) → rxE (A 0) c (f, b) j = (f, b) := fun q => by rw [rxE, if_neg q]
        have up1 : bd8 f (1000 + 200000 * (16 * (100 - k) + (j + 1))) := fun v hv0 hv7 => by
          have := hf v hv0 hv7
          omega
        refine z_aload_n hX rfl (by first | rfl | exact va_rf_r _) dX1_shortens_28 ?_
        refine zm_get hX 26 (by decide) q1396 dX1_shortens_29 rfl rfl ?_
        refine z_aload_n hX rfl (by first | rfl | exact va_rf_r _) dX1_shortens_32 ?_
        refine z_iload hX rfl dX1_shortens_33 ?_
        refine z_iconst hX dX1_shortens_35 ?_
        refine z_calli (z_runV hX (m_of0 _ _ hD (by omega)) (cwV 2 hX.ts (lw_V q1529 q1531 qs34 q71 q1532) rfl rfl rfl (by decide +kernel) (zroom (by decide) (by decide))) dX1_shortens_36 mM_0 (ci := 1) rfl rfl rfl rfl (by first | exact Nat.le_of_ble_eq_true rfl | simp [va_rf_c, Value.category]) (zhf (by omega) (by omega))) (fun r_36 μ_36 h_36 => ?_)
        obtain ⟨rfl, rfl⟩ := h_36; rw [a0]
        refine zm_laload hX hD 26 (by decide) (by decide) 8 rfl dX1_shortens_39 (by omega) ?_
        refine z_lstore hX (lv' := [_, _, _, _, _, _, _, _, _, _, _, _, _, _, _]) (Nat.le_of_ble_eq_true rfl) (by first | exact zpre_0 | exact zpre_n rfl | exact zpre_1 rfl rfl | exact zpre_1 rfl (va_rf_c _)) rfl rfl dX1_shortens_40 ?_
        refine z_lload hX rfl dX1_shortens_42 ?_
        refine z_lload_n hX rfl dX1_shortens_44 ?_
        refine z_aload_n hX rfl (by first | rfl | exact va_rf_r _) dX1_shortens_45 ?_
        refine z_iload hX rfl dX1_shortens_46 ?_
        refine z_iconst hX dX1_shortens_48 ?_
        refine z_calli (z_runV hX (m_of _ _ hD (by omega)) (cwV 2 hX.ts (lw_V q1529 q1531 qs34 q71 q1532) rfl rfl rfl (by decide +kernel) (zroom (by decide) (by decide))) dX1_shortens_49 mM_0 (ci := 1) rfl rfl rfl rfl (by first | exact Nat.le_of_ble_eq_true rfl | simp [va_rf_c, Value.category]) (zhf (by omega) (by omega))) (fun r_49 μ_49 h_49 => ?_)
        obtain ⟨rfl, rfl⟩ := h_49; rw [a026, a0]
        refine z_i2l hX (by omega) dX1_shortens_52 ?_
        refine z_lmul hX dX1_shortens_53 ?_
        refine z_ladd hX dX1_shortens_54 ?_
        refine z_lload_n hX rfl dX1_shortens_55 ?_
        refine z_aload_n hX rfl (by first | rfl | exact va_rf_r _) dX1_shortens_56 ?_
        refine z_iload hX rfl dX1_shortens_57 ?_
        refine z_iconst hX dX1_shortens_59 ?_
        refine z_calli (z_runV hX (m_of _ _ hD (by omega)) (cwV 2 hX.ts (lw_V q1529 q1531 qs34 q71 q1532) rfl rfl rfl (by decide +kernel) (zroom (by decide) (by decide))) dX1_shortens_60 mM_0 (ci := 1) rfl rfl rfl rfl (by first | exact Nat.le_of_ble_eq_true rfl | simp [va_rf_c, Value.category]) (zhf (by omega) (by omega))) (fun r_60 μ_60 h_60 => ?_)
        obtain ⟨rfl, rfl⟩ := h_60; rw [a0]
        refine z_i2l hX (by omega) dX1_shortens_63 ?_
        refine z_lmul hX dX1_shortens_64 ?_
        refine z_ladd hX dX1_shortens_65 ?_
        rw [Int.zero_mul, Int.add_zero]; refine z_lload hX rfl dX1_shortens_66 ?_
        refine z_ladd hX dX1_shortens_68 ?_
        refine z_lstore hX (lv' := [_, _, _, _, _, _, _, _, _, _, _, _, _, _, _]) (Nat.le_of_ble_eq_true rfl) (by first | exact zpre_0 | exact zpre_n rfl | exact zpre_1 rfl rfl | exact zpre_1 rfl (va_rf_c _)) rfl rfl dX1_shortens_69 ?_
        refine z_lload hX rfl dX1_shortens_71 ?_
        refine z_ldc2_w hX (z := 4000000000000000000) q1683 (by decide) dX1_shortens_73 ?_
        refine z_lcmp_ge hX (by omega) (by omega) dX1_shortens_76 dX1_shortens_77 (tgt := 115) rfl (fun h_76 => ?_) (fun h_76 => ?_)
        · exact absurd h_76 (by omega)
        · refine z_lload hX rfl dX1_shortens_80 ?_
          refine z_aload_n hX rfl (by first | rfl | exact va_rf_r _) dX1_shortens_82 ?_
          refine zm_get hX 26 (by decide) q1396 dX1_shortens_83 rfl rfl ?_
          refine z_aload_n hX rfl (by first | rfl | exact va_rf_r _) dX1_shortens_86 ?_
          refine z_iload hX rfl dX1_shortens_87 ?_
          refine z_iconst hX dX1_shortens_89 ?_
          refine z_calli (z_runV hX (m_of _ _ hD (by omega)) (cwV 2 hX.ts (lw_V q1529 q1531 qs34 q71 q1532) rfl rfl rfl (by decide +kernel) (zroom (by decide) (by decide))) dX1_shortens_90 mM_0 (ci := 1) rfl rfl rfl rfl (by first | exact Nat.le_of_ble_eq_true rfl | simp [va_rf_c, Value.category]) (zhf (by omega) (by omega))) (fun r_90 μ_90 h_90 => ?_)
          obtain ⟨rfl, rfl⟩ := h_90; rw [a0]
          refine zm_laload hX hD 26 (by decide) (by decide) 8 rfl dX1_shortens_93 (by omega) ?_; rw [a026]
          refine z_lcmp_ge hX (by omega) (by omega) dX1_shortens_94 dX1_shortens_95 (tgt := 115) rfl (fun h_94 => ?_) (fun h_94 => ?_)
          · refine next f b (same (by omega)) up1 _ _
          · refine z_aload_n hX rfl (by first | rfl | exact va_rf_r _) dX1_shortens_98 ?_
            refine zm_get hX 26 (by decide) q1396 dX1_shortens_99 rfl rfl ?_
            refine z_aload_n hX rfl (by first | rfl | exact va_rf_r _) dX1_shortens_102 ?_
            refine z_iload hX rfl dX1_shortens_103 ?_
            refine z_iconst hX dX1_shortens_105 ?_
            refine z_calli (z_runV hX (m_of _ _ hD (by omega)) (cwV 2 hX.ts (lw_V q1529 q1531 qs34 q71 q1532) rfl rfl rfl (by decide +kernel) (zroom (by decide) (by decide))) dX1_shortens_106 mM_0 (ci := 1) rfl rfl rfl rfl (by first | exact Nat.le_of_ble_eq_true rfl | simp [va_rf_c, Value.category]) (zhf (by omega) (by omega))) (fun r_106 μ_106 h_106 => ?_)
            obtain ⟨rfl, rfl⟩ := h_106; rw [a0]
            refine z_lload hX rfl dX1_shortens_109 ?_
            refine zm_lastore hX hD 26 (by decide) (by decide) 8 rfl dX1_shortens_111 (by omega) ?_
            refine z_iconst hX dX1_shortens_112 ?_
            refine z_istore hX (lv' := [_, _, _, _, _, _, _, _, _, _, _, _, _, _, _]) (Nat.le_of_ble_eq_true rfl) (by first | exact zpre_0 | exact zpre_n rfl | exact zpre_1 rfl rfl | exact zpre_1 rfl (va_rf_c _)) rfl dX1_shortens_113 ?_
            rw [zg_zg, a026]
            refine next _ true ?_ ?_ _ _
            · rw [rxE, if_pos (by simp only; omega), hcj]
              simp only
              rw [Int.add_assoc]
            · intro v hv0 hv7
              by_cases e : v = A 0 (7 * j + 1)
              · rw [e, zf_s]; omega
              · rw [zf_n e]
                exact up1 v hv0 hv7
  have outer : ∀ (k : Nat) (i : Int) (f : Int → Int), i = 100 - k → k ≤ 100 → bd8 f (1000 + 200000 * (16 * (100 - k))) → T = rxN (A 0) c k f → ∀ y1 y2 y3 y4, zW X (zR 2 0 0) E (mM E ν m0 ad s (zg A 26 f)) 0 0 Q 3 [some (.ref m0), some (.long (zJ u)), none, some (.long (zJ 0)), none, some (.long (zJ m)), none, some (.int (zI 100)), some (.int (zI i)), y1, y2, y3, none, y4, none] [] := by
    intro k
    induction k with
    | zero =>
      intro i f hi hk hf he y1 y2 y3 y4
      refine zW.mask [true, true, true, true, true, true, true, true, true, false, false, false, false, false, false] (lv' := [_, _, _, _, _, _, _, _, _, none, none, none, none, none, none]) rfl ?_
      refine z_iload hX rfl dX1_shortens_3 ?_
      refine z_iload hX rfl dX1_shortens_5 ?_
      refine z_icmp_ge hX (by omega) (by omega) dX1_shortens_7 (tgt := 134) rfl (fun h_7 => ?_) (fun h_7 => ?_)
      · refine z_iconst hX dX1_shortens_134 ?_
        (try rw [← hQ])
        first | refine z_breturn hX true dX1_shortens_135 (by omega) (by omega) ?_ | refine z_breturn hX false dX1_shortens_135 (by omega) (by omega) ?_ | refine z_breturn hX _ dX1_shortens_135 (by omega) (by omega) ?_
        rw [he]
        exact ⟨rfl, rfl⟩
      · exact absurd h_7 (by omega)
    | succ k ih =>
      intro i f hi hk hf he y1 y2 y3 y4
      refine zW.mask [true, true, true, true, true, true, true, true, true, false, false, false, false, false, false] (lv' := [_, _, _, _, _, _, _, _, _, none, none, none, none, none, none]) rfl ?_
      rw [rxN] at he
      refine z_iload hX rfl dX1_shortens_3 ?_
      refine z_iload hX rfl dX1_shortens_5 ?_
      refine z_icmp_ge hX (by omega) (by omega) dX1_shortens_7 (tgt := 134) rfl (fun h_7 => ?_) (fun h_7 => ?_)
      · exact absurd h_7 (by omega)
      · refine z_iconst hX dX1_shortens_10 ?_
        refine z_istore hX (lv' := [_, _, _, _, _, _, _, _, _, _, _, _, _, _, _]) (Nat.le_of_ble_eq_true rfl) (by first | exact zpre_0 | exact zpre_n rfl | exact zpre_1 rfl rfl | exact zpre_1 rfl (va_rf_c _)) rfl dX1_shortens_11 ?_
        refine z_iconst hX dX1_shortens_13 ?_
        refine z_istore hX (lv' := [_, _, _, _, _, _, _, _, _, _, _, _, _, _, _]) (Nat.le_of_ble_eq_true rfl) (by first | exact zpre_0 | exact zpre_n rfl | exact zpre_1 rfl rfl | exact zpre_1 rfl (va_rf_c _)) rfl dX1_shortens_14 ?_
        refine inner (k + 1) (A 0 112 + 1).toNat i 0 f false (by omega) (by omega) (by omega) (by omega) (by omega) (by omega) (fun v hv0 hv7 => by have := hf v hv0 hv7; omega) (fun f' hf' hr y1 y2 y3 => ?_) (fun f' hr y1 y2 y3 => ?_) none none
        · have hr2 : rxR (A 0) c f = (f', true) := hr
          rw [hr2, if_pos rfl] at he
          refine zW.mask [true, true, true, true, true, true, true, true, true, false, false, false, false, false, false] (lv' := [_, _, _, _, _, _, _, _, _, none, none, none, none, none, none]) rfl ?_
          refine z_iinc hX (lv' := [_, _, _, _, _, _, _, _, _, _, _, _, _, _, _]) rfl (Nat.le_of_ble_eq_true rfl) (by first | exact zpre_0 | exact zpre_n rfl | exact zpre_1 rfl rfl | exact zpre_1 rfl (va_rf_c _)) rfl dX1_shortens_128 ?_
          refine z_goto hX (tgt := 3) dX1_shortens_131 rfl ?_
          exact ih (i + 1) f' (by omega) (by omega) (fun v hv0 hv7 => by have := hf' v hv0 hv7; omega) he _ _ _ _
        · have hr2 : rxR (A 0) c f = (f', false) := hr
          rw [hr2, if_neg (by simp)] at he
          refine z_iconst hX dX1_shortens_126 ?_
          (try rw [← hQ])
          first | refine z_breturn hX true dX1_shortens_127 (by omega) (by omega) ?_ | refine z_breturn hX false dX1_shortens_127 (by omega) (by omega) ?_ | refine z_breturn hX _ dX1_shortens_127 (by omega) (by omega) ?_
          rw [he]
          exact ⟨rfl, rfl⟩
  refine z_iconst hX dX1_shortens_0 ?_
  refine z_istore hX (lv' := [_, _, _, _, _, _, _, _, _, _, _, _, _, _, _]) (Nat.le_of_ble_eq_true rfl) (by first | exact zpre_0 | exact zpre_n rfl | exact zpre_1 rfl rfl | exact zpre_1 rfl (va_rf_c _)) rfl dX1_shortens_1 ?_
  have h := outer 100 0 (A 26) (by omega) (by omega) (fun v hv0 hv7 => by have := hb v hv0 hv7; omega) hT.symm none none none none
  rw [zg_id] at h
  exact h
/-- the mean as reduced, its costs, and what is laid -/
def cMean (a : Int → Int) (b : Int × Int × List Int) : Int → Int := fun e => b.2.1 / (Int.gcd b.1 b.2.1 : Int) * a (7 * e + 2) + -(b.1 / (Int.gcd b.1 b.2.1 : Int))
def f00 (f : Int → Int) : Int → Int := fun j => if 0 ≤ j ∧ j < 8 then 0 else f j
/-- the potentials over a graph, if there is a cycle and they settle -/
def potG (a : Int → Int) : Option (Int → Int) := match gBest 0 a with
  | none => none
  | some b => if (rxN a (cMean a b) 100 (fun _ => 0)).2 = true then some (rxN a (cMean a b) 100 (fun _ => 0)).1 else none
abbrev kpA : List Nat := [17, 22, 26]
def inB (b : bT) : Prop := match b with
  | none => True
  | some b => (-792 ≤ b.1 ∧ b.1 ≤ 792) ∧ (1 ≤ b.2.1 ∧ b.2.1 ≤ 72)
theorem wgh_in {g up dn : Int} {p : List Int} {b : bT} (h : inB b) (h1 : -792 ≤ up ∧ up ≤ 792) (h2 : 1 ≤ dn ∧ dn ≤ 72) : inB (wgh g up dn p b) := by
  cases b with
  | none => exact ⟨h1, h2⟩
  | some b =>
    rw [wgh]
    split
    · exact ⟨h1, h2⟩
    · exact h
theorem gD_mem {a : Int → Int} {z : Int} {es : List Int} : ∀ (d : Nat) {T : Int → Bool} {v : Int} {p : List Int}, p ∈ gD a z es d T v → (1 ≤ p.length ∧ p.length ≤ d) ∧ ∀ e ∈ p, e ∈ es
  | 0, _, _, _, h => by simp [gD] at h
  | d + 1, T, v, p, h => by
    simp only [gD, List.mem_flatMap] at h
    obtain ⟨e, he, h⟩ := h
    unfold gI at h
    split at h
    · split at h
      · rw [List.mem_singleton] at h
        subst h
        exact ⟨⟨by simp, by simp⟩, fun x hx => by rw [List.mem_singleton.mp hx]; exact he⟩
      · rw [List.mem_map] at h
        obtain ⟨q, hq, rfl⟩ := h
        have ih := gD_mem d hq
        refine ⟨⟨by simp, by simp only [List.length_cons]; omega⟩, fun x hx => ?_⟩
        rcases List.mem_cons.mp hx with r | r
        · rw [r]; exact he
        · exact ih.2 x r
    · simp at h
theorem gAll_mem {a : Int → Int} {f z : Int} {T : Int → Bool} {p : List Int} (h : p ∈ gAll a f z T) : (1 ≤ p.length ∧ p.length ≤ 8) ∧ ∀ e ∈ p, 0 ≤ e ∧ e < a 112 := by
  have h1 := gD_mem 8 h
  exact ⟨h1.1, fun e he => er_mem.mp (h1.2 e he)⟩
theorem gC_mem {a : Int → Int} {p : List Int} (h : p ∈ gC a) : (1 ≤ p.length ∧ p.length ≤ 8) ∧ ∀ e ∈ p, 0 ≤ e ∧ e < a 112 := by
  unfold gC at h
  rw [List.mem_flatMap] at h
  obtain ⟨s, -, h⟩ := h
  exact gAll_mem h
theorem best_in {a : Int → Int} (hg : gV a) {k : Int} (hk : k = 0 ∨ k = 1) : ∀ (L : List (List Int)) (b : bT), (∀ p ∈ L, (1 ≤ p.length ∧ p.length ≤ 8) ∧ ∀ e ∈ p, 0 ≤ e ∧ e < a 112) → inB b → inB (L.foldl (wst k a) b)
  | [], _, _, h => h
  | p :: L, b, hL, h => by
    have h1 := hL p List.mem_cons_self
    have b1 := esum_w hg h1.1.2 h1.2
    have b2 := esum_t hg h1.1.2 h1.1.1 h1.2
    refine best_in hg hk L _ (fun q hq => hL q (List.mem_cons_of_mem _ hq)) ?_
    refine wgh_in h ?_ ?_
    · rw [vUp, if_neg (by omega)]; exact b1
    · rw [vDn, if_neg (by omega)]
      split
      · omega
      · exact b2
theorem gBest_in {a : Int → Int} (hg : gV a) {k : Int} (hk : k = 0 ∨ k = 1) : inB (gBest k a) := best_in hg hk _ none (fun _ h => gC_mem h) trivial
theorem m_lays (l : Launch) (E : zE) {ν : zM} {m0 : Nat} {ad : Nat → Nat} {s : Nat → Int} {A : Nat → Int → Int} (hD : mD m0 ad) (hg : gV (A 0)) : Met l yX1_laysPotentials (ws_ yX1_laysPotentials cX1_laysPotentials 4 (some .boolean)) (zR 6 0 0) (va_Pc [.ref m0] (zPre E (mM E ν m0 ad s A))) (zQb E (fun r μ' => ∃ s' A', sag ksS s s' ∧ sag kpA A A' ∧ bS s' A' (gBest 0 (A 0)) ∧ (match potG (A 0) with | none => r = false | some F => r = true ∧ eq8 (A' 26) F) ∧ mM E ν m0 ad s' A' = μ')) 0 0 (zA E) := by
  have hib := gBest_in hg (k := 0) (Or.inl rfl)
  refine zmet (cc := cX1_laysPotentials) [_, _, _, _] (by decide) (Nat.le_of_ble_eq_true rfl) rfl rfl ?_
  intro X hl hX hinit; subst hl
  have hX : zOK X _ cX1_laysPotentials RX1 (some .boolean) 4 := hX
  generalize hQ : MQ _ _ _ _ _ _ _ = Q
  refine z_aload_n hX rfl (by first | rfl | exact va_rf_r _) dX1_laysPotentials_0 ?_
  refine z_iconst hX dX1_laysPotentials_1 ?_
  refine z_callv (z_runV hX (m_searches _ _ hD hg (by omega)) (cwV 1 hX.ts (lw_V q1599 q1601 qs42 q71 q1602) rfl rfl rfl (by decide +kernel) (zroom (by decide) (by decide))) dX1_laysPotentials_2 mM_0 (ci := 1) rfl rfl rfl rfl (by first | exact Nat.le_of_ble_eq_true rfl | simp [va_rf_c, Value.category]) (zhf (by omega) (by omega))) (fun μ_2 h_2 => ?_)
  obtain ⟨s1, A1, h1, h2, h3, rfl⟩ := h_2
  have a0 : A1 0 = A 0 := h2 0 (by decide)
  cases hb : gBest 0 (A 0) with
  | none =>
    rw [hb] at h3
    have k23 : s1 23 = -1000001 := h3
    refine z_aload_n hX rfl (by first | rfl | exact va_rf_r _) dX1_laysPotentials_5 ?_
    refine zm_get hX 23 (by decide) q1393 dX1_laysPotentials_6 rfl rfl ?_
    refine z_ldc hX (z := -1000001) q1369 (by decide) dX1_laysPotentials_9 ?_
    refine z_icmp_ne hX (by omega) (by omega) dX1_laysPotentials_11 (tgt := 16) rfl (fun h_11 => ?_) (fun h_11 => ?_)
    · exact absurd k23 h_11
    · refine z_iconst hX dX1_laysPotentials_14 ?_
      (try rw [← hQ])
      first | refine z_breturn hX true dX1_laysPotentials_15 (by omega) (by omega) ?_ | refine z_breturn hX false dX1_laysPotentials_15 (by omega) (by omega) ?_ | refine z_breturn hX _ dX1_laysPotentials_15 (by omega) (by omega) ?_
      refine ⟨s1, A1, h1, h2.mono (by intro k hk; simp only [List.mem_cons, List.not_mem_nil, or_false, not_or] at hk ⊢; omega), by rw [hb]; exact h3, ?_, rfl⟩
      rw [potG, hb]
  | some b =>
    rw [hb] at h3 hib
    obtain ⟨bu, bd, q⟩ := b
    have h3' := h3
    obtain ⟨k1, k2, k3, k4, k5, k6, k7, k8⟩ := h3'
    simp only at k1 k2 k3 k4 k5 k6 k7 k8
    obtain ⟨i1, i2⟩ := hib
    simp only at i1 i2
    obtain ⟨g1, g2, g3, g4⟩ := gcd_pos_r (u := bu) i2
    have g5 : (-bu).tdiv (Int.gcd bu bd : Int) = -(bu / (Int.gcd bu bd : Int)) := by rw [Int.neg_tdiv, g3]
    have r1 : 0 ≤ bd / (Int.gcd bu bd : Int) ∧ bd / (Int.gcd bu bd : Int) ≤ 72 := by
      have q1 := Int.ediv_nonneg (a := bd) (b := (Int.gcd bu bd : Int)) (by omega) (by omega)
      have q2 := Int.ediv_le_self (a := bd) (Int.gcd bu bd : Int) (by omega)
      omega
    have r2 : -792 ≤ bu / (Int.gcd bu bd : Int) ∧ bu / (Int.gcd bu bd : Int) ≤ 792 := by
      have q1 := Int.le_ediv_iff_mul_le (a := -792) (b := bu) g1
      have q2 := Int.ediv_lt_iff_lt_mul (a := bu) (b := 793) g1
      have q3 := q1.mpr (by omega)
      have q4 := q2.mpr (by omega)
      omega
    have loop : ∀ (n : Nat) (i : Int), 0 ≤ i → i ≤ 8 → 8 < i + n → zW X (zR 6 0 0) E (mM E ν m0 ad s1 (zg A1 26 (fun j => if 0 ≤ j ∧ j < i then 0 else A1 26 j))) 0 0 Q 30 [some (.ref m0), some (.long (zJ (Int.gcd bu bd : Int))), none, some (.int (zI i))] [] := by
      intro n
      induction n with
      | zero => intros; exfalso; omega
      | succ n ih =>
        intro i h0 h1' hn
        refine z_iload_n hX rfl dX1_laysPotentials_30 ?_
        refine z_bipush hX (by decide) dX1_laysPotentials_31 ?_
        refine z_icmp_ge hX (by omega) (by omega) dX1_laysPotentials_33 (tgt := 49) rfl (fun h_33 => ?_) (fun h_33 => ?_)
        · obtain rfl : i = 8 := by omega
          have a00 : zg A1 26 (fun j => if 0 ≤ j ∧ j < 8 then 0 else A1 26 j) 0 = A 0 := by rw [zg_n (by decide), a0]
          refine z_aload_n hX rfl (by first | rfl | exact va_rf_r _) dX1_laysPotentials_49 ?_
          refine z_aload_n hX rfl (by first | rfl | exact va_rf_r _) dX1_laysPotentials_50 ?_
          refine zm_get hX 25 (by decide) q1395 dX1_laysPotentials_51 rfl rfl ?_
          refine z_lload_n hX rfl dX1_laysPotentials_54 ?_
          rw [k4]
          refine z_ldivt hX (by omega) (by omega) (by omega) dX1_laysPotentials_55 ?_
          rw [g4]
          refine z_lconst hX (z := 0) (by decide) dX1_laysPotentials_56 ?_
          refine z_aload_n hX rfl (by first | rfl | exact va_rf_r _) dX1_laysPotentials_57 ?_
          refine zm_get hX 24 (by decide) q1394 dX1_laysPotentials_58 rfl rfl ?_
          refine z_lneg hX dX1_laysPotentials_61 ?_
          refine z_lload_n hX rfl dX1_laysPotentials_62 ?_
          rw [k3]
          refine z_ldivt hX (by omega) (by omega) (by omega) dX1_laysPotentials_63 ?_
          rw [g5]
          refine z_bipush hX (by decide) dX1_laysPotentials_64 ?_
          refine z_callb (z_runV hX (m_shortens _ _ hD (by rw [a00]; exact hg) (by omega) (by omega) (by rw [zg_s]; intro v hv0 hv7; dsimp only; rw [if_pos (by omega)]; omega) (c := cMean (A 0) (bu, bd, q)) (fun e => by rw [a00]; rfl)) (cwV 4 hX.ts (lw_V q1679 q1681 qs53 q71 q1682) rfl rfl rfl (by decide +kernel) (zroom (by decide) (by decide))) dX1_laysPotentials_66 mM_0 (ci := 1) rfl rfl rfl rfl (by first | exact Nat.le_of_ble_eq_true rfl | simp [va_rf_c, Value.category]) (zhf (by omega) (by omega))) (fun r_66 μ_66 h_66 => ?_)
          obtain ⟨rfl, rfl⟩ := h_66
          (try rw [← hQ])
          first | refine z_breturn hX true dX1_laysPotentials_69 (by omega) (by omega) ?_ | refine z_breturn hX false dX1_laysPotentials_69 (by omega) (by omega) ?_ | refine z_breturn hX _ dX1_laysPotentials_69 (by omega) (by omega) ?_
          rw [a00, zg_s, zg_zg]
          have e8 : eq8 (fun j => if 0 ≤ j ∧ j < 8 then 0 else A1 26 j) (fun _ => 0) := fun v hv0 hv7 => by dsimp only; rw [if_pos (by omega)]
          have hn8 := rxN_8 (c := cMean (A 0) (bu, bd, q)) (gV_n hg) 100 e8
          refine ⟨s1, _, h1, ?_, ?_, ?_, rfl⟩
          · exact (h2.mono (ks := kpA) (by intro k hk; simp only [List.mem_cons, List.not_mem_nil, or_false, not_or] at hk ⊢; omega)).up2 (by simp)
          · rw [hb]
            exact bS_ag h3 rfl rfl rfl (zg_n (by decide))
          · rw [potG, hb]
            simp only
            rw [hn8.2, zg_s]
            cases hr : (rxN (A 0) (cMean (A 0) (bu, bd, q)) 100 (fun _ => 0)).2 with
            | true => rw [if_pos rfl]; exact ⟨rfl, hn8.1⟩
            | false => rw [if_neg (by decide)]
        · refine z_aload_n hX rfl (by first | rfl | exact va_rf_r _) dX1_laysPotentials_36 ?_
          refine zm_get hX 26 (by decide) q1396 dX1_laysPotentials_37 rfl rfl ?_
          refine z_iload_n hX rfl dX1_laysPotentials_40 ?_
          refine z_lconst hX (z := 0) (by decide) dX1_laysPotentials_41 ?_
          refine zm_lastore hX hD 26 (by decide) (by decide) 8 rfl dX1_laysPotentials_42 (by omega) ?_
          refine z_iinc hX (lv' := [_, _, _, _]) rfl (Nat.le_of_ble_eq_true rfl) (by first | exact zpre_0 | exact zpre_n rfl | exact zpre_1 rfl rfl | exact zpre_1 rfl (va_rf_c _)) rfl dX1_laysPotentials_43 ?_
          refine z_goto hX (tgt := 30) dX1_laysPotentials_46 rfl ?_
          rw [zg_zg, zg_s]
          refine zW.mu ?_ (ih (i + 1) (by omega) (by omega) (by omega))
          congr 2
          funext j
          by_cases hj : j = i
          · subst hj
            rw [zf_s, if_pos (by omega)]
          · rw [zf_n hj]
            by_cases hj2 : 0 ≤ j ∧ j < i
            · rw [if_pos hj2, if_pos (by omega)]
            · rw [if_neg hj2, if_neg (by omega)]
    refine z_aload_n hX rfl (by first | rfl | exact va_rf_r _) dX1_laysPotentials_5 ?_
    refine zm_get hX 23 (by decide) q1393 dX1_laysPotentials_6 rfl rfl ?_
    refine z_ldc hX (z := -1000001) q1369 (by decide) dX1_laysPotentials_9 ?_
    refine z_icmp_ne hX (by omega) (by omega) dX1_laysPotentials_11 (tgt := 16) rfl (fun h_11 => ?_) (fun h_11 => ?_)
    · refine z_aload_n hX rfl (by first | rfl | exact va_rf_r _) dX1_laysPotentials_16 ?_
      refine zm_get hX 24 (by decide) q1394 dX1_laysPotentials_17 rfl rfl ?_
      refine z_aload_n hX rfl (by first | rfl | exact va_rf_r _) dX1_laysPotentials_20 ?_
      refine zm_get hX 25 (by decide) q1395 dX1_laysPotentials_21 rfl rfl ?_
      refine z_calll (z_runS hX (m_common _ _ _ (a := s1 24) (b := s1 25) (by omega) (by omega)) (va_cwS 2 hX.ts (lw_S q1645 q1646 q71 q1647) rfl rfl rfl (by decide +kernel) (zroom (by decide) (by decide))) dX1_laysPotentials_24 rfl rfl rfl (by first | exact Nat.le_of_ble_eq_true rfl | simp [va_rf_c, Value.category]) (zhf (by omega) (by omega))) (fun r_24 μ_24 h_24 => ?_)
      obtain ⟨rfl, rfl⟩ := h_24; rw [k3, k4]
      refine z_lstore_n hX (lv' := [_, _, _, _]) (Nat.le_of_ble_eq_true rfl) (by first | exact zpre_0 | exact zpre_n rfl | exact zpre_1 rfl rfl | exact zpre_1 rfl (va_rf_c _)) rfl rfl dX1_laysPotentials_27 ?_
      refine z_iconst hX dX1_laysPotentials_28 ?_
      refine z_istore_n hX (lv' := [_, _, _, _]) (Nat.le_of_ble_eq_true rfl) (by first | exact zpre_0 | exact zpre_n rfl | exact zpre_1 rfl rfl | exact zpre_1 rfl (va_rf_c _)) rfl dX1_laysPotentials_29 ?_
      refine zW.mu ?_ (loop 9 0 (by omega) (by omega) (by omega))
      rw [show (fun j => if 0 ≤ j ∧ j < 0 then 0 else A1 26 j) = A1 26 from by
        funext j
        rw [if_neg (by omega)], zg_id]
    · exact absurd (k1.symm.trans h_11) (by omega)
def potR (a : Int → Int) (v : Int) : Int := match potG a with
  | none => -1000001
  | some F => F v
abbrev kxA : List Nat := [17, 22, 26]
theorem m_potential (l : Launch) (E : zE) {ν : zM} {m0 : Nat} {ad : Nat → Nat} {s : Nat → Int} {A : Nat → Int → Int} (hD : mD m0 ad) (hg : gV (A 0)) {v : Int} (hv : iR v) : Met l yX1_potential (ws_ yX1_potential cX1_potential 2 (some .long)) (zR 7 0 0) (va_Pc [.ref m0, .int (zI v)] (zPre E (mM E ν m0 ad s A))) (zQl E (fun r μ' => ∃ s' A', sag ksS s s' ∧ sag kpA A A' ∧ (if 0 ≤ v ∧ v ≤ 7 then potR (A 0) v else gBAD) = r ∧ mM E ν m0 ad s' A' = μ')) 0 0 (zA E) := by
  refine zmet (cc := cX1_potential) [_, _] (by decide) (Nat.le_of_ble_eq_true rfl) rfl rfl ?_
  intro X hl hX hinit; subst hl
  have hX : zOK X _ cX1_potential RX1 (some .long) 2 := hX
  refine z_iload_n hX rfl dX1_potential_0 ?_
  refine z_callb (z_runS hX (m_isNode _ _ _ hv) (va_cwS 1 hX.ts (lw_S q1497 q1498 q71 q1499) rfl rfl rfl (by decide +kernel) (zroom (by decide) (by decide))) dX1_potential_1 rfl rfl rfl (by first | exact Nat.le_of_ble_eq_true rfl | simp [va_rf_c, Value.category]) (zhf (by omega) (by omega))) (fun r_1 μ_1 h_1 => ?_)
  obtain ⟨rfl, rfl⟩ := h_1
  refine z_if_ne_b hX dX1_potential_4 (tgt := 11) rfl (fun h_4 => ?_) (fun h_4 => ?_)
  · have hok : 0 ≤ v ∧ v ≤ 7 := by simpa using h_4
    refine z_aload_n hX rfl (by first | rfl | exact va_rf_r _) dX1_potential_11 ?_
    refine z_callb (z_runV hX (m_lays _ _ hD hg) (cwV 0 hX.ts (lw_V q1675 q1677 qs52 q71 q1678) rfl rfl rfl (by decide +kernel) (zroom (by decide) (by decide))) dX1_potential_12 mM_0 (ci := 1) rfl rfl rfl rfl (by first | exact Nat.le_of_ble_eq_true rfl | simp [va_rf_c, Value.category]) (zhf (by omega) (by omega))) (fun r_12 μ_12 h_12 => ?_)
    obtain ⟨s1, A1, h1, h2, h3, h4, rfl⟩ := h_12
    refine z_if_eq_b hX dX1_potential_15 (tgt := 27) rfl (fun h_15 => ?_) (fun h_15 => ?_)
    · refine z_ldc2_w hX (z := -1000001) q1684 (by decide) dX1_potential_27 ?_
      (try rw [← hQ])
      refine z_lreturn hX dX1_potential_30 (by omega) (by omega) ?_
      refine ⟨s1, A1, h1, h2, ?_, rfl⟩
      rw [if_pos hok, potR]
      cases hp : potG (A 0) with
      | none => rfl
      | some F => rw [hp] at h4; exact absurd (h4.1.symm.trans h_15) (by decide)
    · refine z_aload_n hX rfl (by first | rfl | exact va_rf_r _) dX1_potential_18 ?_
      refine zm_get hX 26 (by decide) q1396 dX1_potential_19 rfl rfl ?_
      refine z_iload_n hX rfl dX1_potential_22 ?_
      refine zm_laload hX hD 26 (by decide) (by decide) 8 rfl dX1_potential_23 (by omega) ?_
      refine z_goto hX (tgt := 30) dX1_potential_24 rfl ?_
      (try rw [← hQ])
      refine z_lreturn hX dX1_potential_30 (by omega) (by omega) ?_
      refine ⟨s1, A1, h1, h2, ?_, rfl⟩
      rw [if_pos hok, potR]
      cases hp : potG (A 0) with
      | none => rw [hp] at h4; exact absurd (h4.symm.trans h_15) (by decide)
      | some F => rw [hp] at h4; exact (h4.2 v hok.1 hok.2).symm
  · refine z_ldc2_w hX (z := -1000002) q1669 (by decide) dX1_potential_7 ?_
    (try rw [← hQ])
    refine z_lreturn hX dX1_potential_10 (by omega) (by omega) ?_
    exact ⟨s, A, sag.rf, sag.rf, by rw [if_neg (by simpa using h_4)]; rfl, rfl⟩
def tightR (a : Int → Int) : Int := match potG a, gBest 0 a with
  | some F, some b => (tgL a (cMean a b) F 0 (er 0 (a 112)) : Int)
  | _, _ => 0
theorem potG_some {a F : Int → Int} (h : potG a = some F) : ∃ b, gBest 0 a = some b := by
  unfold potG at h
  split at h
  · cases h
  · exact ⟨_, by assumption⟩
theorem m_tight (l : Launch) (E : zE) {ν : zM} {m0 : Nat} {ad : Nat → Nat} {s : Nat → Int} {A : Nat → Int → Int} (hD : mD m0 ad) (hg : gV (A 0)) (hpr : ∀ F, potG (A 0) = some F → bd8 F 1000000000000) : Met l yX1_tight (ws_ yX1_tight cX1_tight 6 (some .int)) (zR 7 0 0) (va_Pc [.ref m0] (zPre E (mM E ν m0 ad s A))) (zQi E (fun r μ' => ∃ s' A', sag ksS s s' ∧ sag kpA A A' ∧ tightR (A 0) = r ∧ mM E ν m0 ad s' A' = μ')) 0 0 (zA E) := by
  have hib := gBest_in hg (k := 0) (Or.inl rfl)
  have hn := hg.1
  refine zmet (cc := cX1_tight) [_, _, _, _, _, _] (by decide) (Nat.le_of_ble_eq_true rfl) rfl rfl ?_
  intro X hl hX hinit; subst hl
  have hX : zOK X _ cX1_tight RX1 (some .int) 6 := hX
  generalize hQ : MQ _ _ _ _ _ _ _ = Q
  refine z_aload_n hX rfl (by first | rfl | exact va_rf_r _) dX1_tight_0 ?_
  refine z_callb (z_runV hX (m_lays _ _ hD hg) (cwV 0 hX.ts (lw_V q1675 q1677 qs52 q71 q1678) rfl rfl rfl (by decide +kernel) (zroom (by decide) (by decide))) dX1_tight_1 mM_0 (ci := 1) rfl rfl rfl rfl (by first | exact Nat.le_of_ble_eq_true rfl | simp [va_rf_c, Value.category]) (zhf (by omega) (by omega))) (fun r_1 μ_1 h_1 => ?_)
  obtain ⟨s1, A1, h1, h2, h3, h4, rfl⟩ := h_1
  refine z_if_ne_b hX dX1_tight_4 (tgt := 9) rfl (fun h_4 => ?_) (fun h_4 => ?_)
  · cases hp : potG (A 0) with
    | none => rw [hp] at h4; exact absurd (h4.symm.trans h_4) (by decide)
    | some F =>
      rw [hp] at h4
      obtain ⟨b, hb⟩ := potG_some hp
      have hbF := hpr F hp
      have h8 := h4.2
      rw [hb] at h3 hib
      obtain ⟨bu, bd, q⟩ := b
      obtain ⟨k1, k2, k3, k4, k5, k6, k7, k8⟩ := h3
      simp only at k1 k2 k3 k4 k5 k6 k7 k8
      obtain ⟨i1, i2⟩ := hib
      simp only at i1 i2
      obtain ⟨g1, g2, g3, g4⟩ := gcd_pos_r (u := bu) i2
      have r1 : 0 ≤ bd / (Int.gcd bu bd : Int) ∧ bd / (Int.gcd bu bd : Int) ≤ 72 := by
        have q1 := Int.ediv_nonneg (a := bd) (b := (Int.gcd bu bd : Int)) (by omega) (by omega)
        have q2 := Int.ediv_le_self (a := bd) (Int.gcd bu bd : Int) (by omega)
        omega
      have r2 : -792 ≤ bu / (Int.gcd bu bd : Int) ∧ bu / (Int.gcd bu bd : Int) ≤ 792 := by
        have q1 := Int.le_ediv_iff_mul_le (a := -792) (b := bu) g1
        have q2 := Int.ediv_lt_iff_lt_mul (a := bu) (b := 793) g1
        have q3 := q1.mpr (by omega)
        have q4 := q2.mpr (by omega)
        omega
      have a0 : A1 0 = A 0 := h2 0 (by decide)
      have a112 := congrFun a0 112
      have htR : tightR (A 0) = (tgL (A 0) (cMean (A 0) (bu, bd, q)) (A1 26) 0 (er 0 (A 0 112)) : Int) := by
        rw [tightR, hp, hb]
        simp only
        rw [tgL_8 (gV_n hg) h8 _ _ (fun e he => er_mem.mp he)]
      have loop : ∀ (n : Nat) (i : Int) (M : Nat), 0 ≤ i → i ≤ A 0 112 → A 0 112 < i + n → M < 65536 → tgL (A 0) (cMean (A 0) (bu, bd, q)) (A1 26) M (er i (A 0 112)) = tgL (A 0) (cMean (A 0) (bu, bd, q)) (A1 26) 0 (er 0 (A 0 112)) → ∀ y, zW X (zR 7 0 0) E (mM E ν m0 ad s1 A1) 0 0 Q 26 [some (.ref m0), some (.long (zJ (Int.gcd bu bd : Int))), none, some (.int (zI (M : Int))), some (.int (zI i)), y] [] := by
        intro n
        induction n with
        | zero => intros; exfalso; omega
        | succ n ih =>
          intro i M h0 h1' hn2 hM he y
          refine zW.mask [true, true, true, true, true, false] (lv' := [_, _, _, _, _, none]) rfl ?_
          refine z_iload hX rfl dX1_tight_26 ?_
          refine z_aload_n hX rfl (by first | rfl | exact va_rf_r _) dX1_tight_28 ?_
          refine zm_get hX 0 (by decide) q1370 dX1_tight_29 rfl rfl ?_
          refine z_bipush hX (by decide) dX1_tight_32 ?_
          refine zm_iaload hX hD 0 (by decide) (by decide) 113 rfl dX1_tight_34 (by omega) ?_
          refine z_icmp_ge hX (by omega) (by omega) dX1_tight_35 (tgt := 118) rfl (fun h_35 => ?_) (fun h_35 => ?_)
          · obtain rfl : i = A 0 112 := by omega
            rw [er_nil (Int.le_refl _)] at he
            refine z_iload_n hX rfl dX1_tight_118 ?_
            (try rw [← hQ])
            refine z_ireturn hX dX1_tight_119 (by omega) (by omega) ?_
            refine ⟨s1, A1, h1, h2, ?_, rfl⟩
            rw [htR, ← he]
            rfl
          · have hv := hg.2 i h0 (by omega)
            unfold eV at hv
            rw [er_cons (show i < A 0 112 by omega)] at he
            simp only [tgL, List.foldl_cons] at he
            have f1 := hbF (A 0 (7 * i)) (by omega) (by omega)
            have f2 := hbF (A 0 (7 * i + 1)) (by omega) (by omega)
            rw [← h8 (A 0 (7 * i)) (by omega) (by omega)] at f1
            rw [← h8 (A 0 (7 * i + 1)) (by omega) (by omega)] at f2
            have m1 := mul_r (M := 72) (N := 99) (show -72 ≤ bd / (Int.gcd bu bd : Int) ∧ bd / (Int.gcd bu bd : Int) ≤ 72 by omega) hv.2.2.1
            have next : ∀ (r : Bool), (r = decide (A1 26 (A 0 (7 * i)) + cMean (A 0) (bu, bd, q) i = A1 26 (A 0 (7 * i + 1)))) → zW X (zR 7 0 0) E (mM E ν m0 ad s1 A1) 0 0 Q 94 [some (.ref m0), some (.long (zJ (Int.gcd bu bd : Int))), none, some (.int (zI (M : Int))), some (.int (zI i)), none] [.int (zI (zb r))] := by
              intro r hr
              refine z_istore hX (lv' := [_, _, _, _, _, _]) (Nat.le_of_ble_eq_true rfl) (by first | exact zpre_0 | exact zpre_n rfl | exact zpre_1 rfl rfl | exact zpre_1 rfl (va_rf_c _)) rfl dX1_tight_94 ?_
              refine z_iload_n hX rfl dX1_tight_96 ?_
              refine z_iload hX rfl dX1_tight_97 ?_
              refine z_if_eq_b hX dX1_tight_99 (tgt := 109) rfl (fun h_99 => ?_) (fun h_99 => ?_)
              · subst h_99
                rw [if_neg (of_decide_eq_false hr.symm)] at he
                refine z_iconst hX dX1_tight_109 ?_
                refine z_ior hX (z := (M:Int)) (zor0 _ (by omega)) dX1_tight_110 ?_
                refine z_istore_n hX (lv' := [_, _, _, _, _, _]) (Nat.le_of_ble_eq_true rfl) (by first | exact zpre_0 | exact zpre_n rfl | exact zpre_1 rfl rfl | exact zpre_1 rfl (va_rf_c _)) rfl dX1_tight_111 ?_
                refine z_iinc hX (lv' := [_, _, _, _, _, _]) rfl (Nat.le_of_ble_eq_true rfl) (by first | exact zpre_0 | exact zpre_n rfl | exact zpre_1 rfl rfl | exact zpre_1 rfl (va_rf_c _)) rfl dX1_tight_112 ?_
                refine z_goto hX (tgt := 26) dX1_tight_115 rfl ?_
                exact ih (i + 1) M (by omega) (by omega) (by omega) hM he _
              · subst h_99
                rw [if_pos (of_decide_eq_true hr.symm)] at he
                have hlt : M ||| 2 ^ i.toNat < 65536 := Nat.or_lt_two_pow (n := 16) hM (Nat.pow_lt_pow_right (by omega) (by omega))
                refine z_iconst hX dX1_tight_102 ?_
                refine z_iload hX rfl dX1_tight_103 ?_
                refine z_ishl hX (z := ((2^i.toNat:Nat):Int)) (zshlI (by omega) (by omega)) dX1_tight_105 ?_
                refine z_goto hX (tgt := 110) dX1_tight_106 rfl ?_
                refine z_ior hX (z := ((M|||2^i.toNat:Nat):Int)) (zor _ _) dX1_tight_110 ?_
                refine z_istore_n hX (lv' := [_, _, _, _, _, _]) (Nat.le_of_ble_eq_true rfl) (by first | exact zpre_0 | exact zpre_n rfl | exact zpre_1 rfl rfl | exact zpre_1 rfl (va_rf_c _)) rfl dX1_tight_111 ?_
                refine z_iinc hX (lv' := [_, _, _, _, _, _]) rfl (Nat.le_of_ble_eq_true rfl) (by first | exact zpre_0 | exact zpre_n rfl | exact zpre_1 rfl rfl | exact zpre_1 rfl (va_rf_c _)) rfl dX1_tight_112 ?_
                refine z_goto hX (tgt := 26) dX1_tight_115 rfl ?_
                exact ih (i + 1) _ (by omega) (by omega) (by omega) hlt he _
            have hcm : cMean (A 0) (bu, bd, q) i = bd / (Int.gcd bu bd : Int) * A 0 (7 * i + 2) + -(bu / (Int.gcd bu bd : Int)) := rfl
            refine z_aload_n hX rfl (by first | rfl | exact va_rf_r _) dX1_tight_38 ?_
            refine zm_get hX 26 (by decide) q1396 dX1_tight_39 rfl rfl ?_
            refine z_aload_n hX rfl (by first | rfl | exact va_rf_r _) dX1_tight_42 ?_
            refine z_iload hX rfl dX1_tight_43 ?_
            refine z_iconst hX dX1_tight_45 ?_
            refine z_calli (z_runV hX (m_of0 _ _ hD (by omega)) (cwV 2 hX.ts (lw_V q1529 q1531 qs34 q71 q1532) rfl rfl rfl (by decide +kernel) (zroom (by decide) (by decide))) dX1_tight_46 mM_0 (ci := 1) rfl rfl rfl rfl (by first | exact Nat.le_of_ble_eq_true rfl | simp [va_rf_c, Value.category]) (zhf (by omega) (by omega))) (fun r_46 μ_46 h_46 => ?_)
            obtain ⟨rfl, rfl⟩ := h_46; rw [a0]
            refine zm_laload hX hD 26 (by decide) (by decide) 8 rfl dX1_tight_49 (by omega) ?_
            refine z_aload_n hX rfl (by first | rfl | exact va_rf_r _) dX1_tight_50 ?_
            refine zm_get hX 25 (by decide) q1395 dX1_tight_51 rfl rfl ?_
            refine z_lload_n hX rfl dX1_tight_54 ?_
            rw [k4]; refine z_ldivt hX (by omega) (by omega) (by omega) dX1_tight_55 ?_; rw [g4]
            refine z_aload_n hX rfl (by first | rfl | exact va_rf_r _) dX1_tight_56 ?_
            refine z_iload hX rfl dX1_tight_57 ?_
            refine z_iconst hX dX1_tight_59 ?_
            refine z_calli (z_runV hX (m_of _ _ hD (by omega)) (cwV 2 hX.ts (lw_V q1529 q1531 qs34 q71 q1532) rfl rfl rfl (by decide +kernel) (zroom (by decide) (by decide))) dX1_tight_60 mM_0 (ci := 1) rfl rfl rfl rfl (by first | exact Nat.le_of_ble_eq_true rfl | simp [va_rf_c, Value.category]) (zhf (by omega) (by omega))) (fun r_60 μ_60 h_60 => ?_)
            obtain ⟨rfl, rfl⟩ := h_60; rw [a0]
            refine z_i2l hX (by omega) dX1_tight_63 ?_
            refine z_lmul hX dX1_tight_64 ?_
            refine z_ladd hX dX1_tight_65 ?_
            refine z_aload_n hX rfl (by first | rfl | exact va_rf_r _) dX1_tight_66 ?_
            refine zm_get hX 24 (by decide) q1394 dX1_tight_67 rfl rfl ?_
            refine z_lload_n hX rfl dX1_tight_70 ?_
            rw [k3]; refine z_ldivt hX (by omega) (by omega) (by omega) dX1_tight_71 ?_; rw [g3]
            refine z_lsub hX dX1_tight_72 ?_
            refine z_aload_n hX rfl (by first | rfl | exact va_rf_r _) dX1_tight_73 ?_
            refine zm_get hX 26 (by decide) q1396 dX1_tight_74 rfl rfl ?_
            refine z_aload_n hX rfl (by first | rfl | exact va_rf_r _) dX1_tight_77 ?_
            refine z_iload hX rfl dX1_tight_78 ?_
            refine z_iconst hX dX1_tight_80 ?_
            refine z_calli (z_runV hX (m_of _ _ hD (by omega)) (cwV 2 hX.ts (lw_V q1529 q1531 qs34 q71 q1532) rfl rfl rfl (by decide +kernel) (zroom (by decide) (by decide))) dX1_tight_81 mM_0 (ci := 1) rfl rfl rfl rfl (by first | exact Nat.le_of_ble_eq_true rfl | simp [va_rf_c, Value.category]) (zhf (by omega) (by omega))) (fun r_81 μ_81 h_81 => ?_)
            obtain ⟨rfl, rfl⟩ := h_81; rw [a0]
            refine zm_laload hX hD 26 (by decide) (by decide) 8 rfl dX1_tight_84 (by omega) ?_
            refine z_lcmp_ne hX (by omega) (by omega) dX1_tight_85 dX1_tight_86 (tgt := 93) rfl (fun h_85 => ?_) (fun h_85 => ?_)
            · refine z_iconst hX dX1_tight_93 ?_
              exact next false (decide_eq_false (by omega)).symm
            · refine z_iconst hX dX1_tight_89 ?_
              refine z_goto hX (tgt := 94) dX1_tight_90 rfl ?_
              exact next true (decide_eq_true (by omega)).symm
      refine z_aload_n hX rfl (by first | rfl | exact va_rf_r _) dX1_tight_9 ?_
      refine zm_get hX 24 (by decide) q1394 dX1_tight_10 rfl rfl ?_
      refine z_aload_n hX rfl (by first | rfl | exact va_rf_r _) dX1_tight_13 ?_
      refine zm_get hX 25 (by decide) q1395 dX1_tight_14 rfl rfl ?_
      refine z_calll (z_runS hX (m_common _ _ _ (a := s1 24) (b := s1 25) (by omega) (by omega)) (va_cwS 2 hX.ts (lw_S q1645 q1646 q71 q1647) rfl rfl rfl (by decide +kernel) (zroom (by decide) (by decide))) dX1_tight_17 rfl rfl rfl (by first | exact Nat.le_of_ble_eq_true rfl | simp [va_rf_c, Value.category]) (zhf (by omega) (by omega))) (fun r_17 μ_17 h_17 => ?_)
      obtain ⟨rfl, rfl⟩ := h_17; rw [k3, k4]
      refine z_lstore_n hX (lv' := [_, _, _, _, _, _]) (Nat.le_of_ble_eq_true rfl) (by first | exact zpre_0 | exact zpre_n rfl | exact zpre_1 rfl rfl | exact zpre_1 rfl (va_rf_c _)) rfl rfl dX1_tight_20 ?_
      refine z_iconst hX dX1_tight_21 ?_
      refine z_istore_n hX (lv' := [_, _, _, _, _, _]) (Nat.le_of_ble_eq_true rfl) (by first | exact zpre_0 | exact zpre_n rfl | exact zpre_1 rfl rfl | exact zpre_1 rfl (va_rf_c _)) rfl dX1_tight_22 ?_
      refine z_iconst hX dX1_tight_23 ?_
      refine z_istore hX (lv' := [_, _, _, _, _, _]) (Nat.le_of_ble_eq_true rfl) (by first | exact zpre_0 | exact zpre_n rfl | exact zpre_1 rfl rfl | exact zpre_1 rfl (va_rf_c _)) rfl dX1_tight_24 ?_
      exact loop (A 0 112 + 1).toNat 0 0 (by omega) (by omega) (by omega) (by omega) rfl _
  · refine z_iconst hX dX1_tight_7 ?_
    (try rw [← hQ])
    refine z_ireturn hX dX1_tight_8 (by omega) (by omega) ?_
    refine ⟨s1, A1, h1, h2, ?_, rfl⟩
    cases hp : potG (A 0) with
    | none => rw [tightR, hp]
    | some F => rw [hp] at h4; exact absurd (h4.1.symm.trans h_4) (by decide)
